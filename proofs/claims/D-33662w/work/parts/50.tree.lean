/-! ===== trees: all ===== -/
theorem lev_top {x L : Nat} (hx : x < 64) (h1 : 1 ≤ L) (h3 : L ≤ 3) (h : levC x L = L) : x / 8 * 2 ^ (L - 1) < 8 ∧ x % 8 * 2 ^ (L - 1) < 8 :=
  (show ∀ L, L ≤ 3 → ∀ x, x < 64 → (1 ≤ L → levC x L = L → x / 8 * 2 ^ (L - 1) < 8 ∧ x % 8 * 2 ^ (L - 1) < 8) by decide +kernel) L h3 x hx h1 h
/-- trees from above, of the first cells -/
def faN (t : Int32) (pa : Nat → Int32) (L : Nat) : Nat → Nat
  | 0 => 0
  | k + 1 => faN t pa L k + (if levC k L = L then cnU t pa (L - 1) k else 0)
theorem faN_le {t : Int32} {pa : Nat → Int32} {L : Nat} (h3 : L ≤ 3) : ∀ k, faN t pa L k ≤ 16 * k := by
  intro k
  induction k with
  | zero => exact Nat.le_refl _
  | succ k ih =>
    show faN t pa L k + _ ≤ _
    have h1 := cnU_le (t := t) (pa := pa) (L - 1) k
    have h2 : 4 ^ (L - 1) ≤ 4 ^ 2 := Nat.pow_le_pow_right (by decide) (by omega)
    split <;> omega
def arK (q : Nat → Bool) (x : Nat) : Nat → Bool
  | 0 => true
  | k + 1 => arK q x k && q (chC x k)
def arU (q : Nat → Bool) (j x : Nat) : Bool := if j = 1 then true else arK q x 4
theorem ch_in {x j k : Nat} (h1 : 2 ≤ j) (h3 : j ≤ 3) (hk : k < 4) (h : x / 8 * 2 ^ (j - 1) < 8 ∧ x % 8 * 2 ^ (j - 1) < 8) : chC x k < 64 := by
  have e : j = 2 ∨ j = 3 := by omega
  unfold chC
  rcases e with e | e
  · subst e
    have : (2 : Nat) ^ (2 - 1) = 2 := rfl
    rw [this] at h
    omega
  · subst e
    have : (2 : Nat) ^ (3 - 1) = 4 := rfl
    rw [this] at h
    omega
theorem arU_e {q : Nat → Bool} {j x k : Nat} (h : k = 4) (hj : ¬ j = 1) : arK q x k = arU q j x := by
  subst h
  unfold arU
  rw [if_neg hj]
theorem arU_1 {q : Nat → Bool} {j x k : Nat} (h : k = 0) (hj : j = 1) : arK q x k = arU q j x := by
  subst h
  unfold arU
  rw [if_pos hj]
  rfl
theorem lev_any {x L j : Nat} (hx : x < 64) (h3 : L ≤ 3) (h : levC x L = j) (hj : 1 ≤ j) : x / 8 * 2 ^ (j - 1) < 8 ∧ x % 8 * 2 ^ (j - 1) < 8 := by
  subst h
  exact (show ∀ L, L ≤ 3 → ∀ x, x < 64 → (1 ≤ levC x L → x / 8 * 2 ^ (levC x L - 1) < 8 ∧ x % 8 * 2 ^ (levC x L - 1) < 8) by decide +kernel) L h3 x hx hj
def fbK (t : Int32) (pa : Nat → Int32) (L j : Nat) (q : Nat → Bool) : Nat → (Nat → Bool)
  | 0 => q
  | k + 1 => va_up (fbK t pa L j q k) k (if levC k L = j then (if nearB t (pa k) = true then (if arU (fbK t pa L j q k) j k = true then true else false) else false) else fbK t pa L j q k k)
def fbJ (t : Int32) (pa : Nat → Int32) (L : Nat) (q : Nat → Bool) : Nat → (Nat → Bool)
  | 0 => q
  | j + 1 => fbK t pa L (j + 1) (fbJ t pa L q j) 64
theorem fbJ_s {t : Int32} {pa : Nat → Int32} {L : Nat} {q : Nat → Bool} {j : Nat} (h : 1 ≤ j) : fbK t pa L j (fbJ t pa L q (j - 1)) 64 = fbJ t pa L q (j + 1 - 1) := by
  have : j = (j - 1) + 1 := by omega
  rw [this]
  rfl
def fbT (q : Nat → Bool) (L k : Nat) : Bool := if levC k L = L then true else (if q (8 * (k / 8 / 2) + k % 8 / 2) = true then false else true)
def fbM (q : Nat → Bool) (L k : Nat) : Nat := if 0 < levC k L then (if q k = true then (if fbT q L k = true then 1 else 0) else 0) else 0
def fbN (q : Nat → Bool) (L : Nat) : Nat → Nat
  | 0 => 0
  | k + 1 => fbN q L k + fbM q L k
theorem fbM_le (q : Nat → Bool) (L k : Nat) : fbM q L k ≤ 1 := by
  unfold fbM
  repeat' split
  all_goals omega
theorem fbN_le (q : Nat → Bool) (L k : Nat) : fbN q L k ≤ k := by
  induction k with
  | zero => exact Nat.le_refl _
  | succ k ih =>
    have := fbM_le q L k
    show fbN q L k + fbM q L k ≤ _
    omega
def rm_X7_fromAbove : Room := ({ frames := 10, cells := 0, slots := 0, locals := 260 } : Room)
set_option maxHeartbeats 400000 in
set_option maxRecDepth 100000 in
theorem t_X7_fromAbove (l : Launch) (G : GG) (b0 sz : Nat) (h sm pr L : Nat) (t : Int32) (pa : Nat → Int32) (hL1 : 1 ≤ L) (hL : L ≤ 3) : CT l yX7_fromAbove cX7_fromAbove 3 (some FieldType.int) (rm_X7_fromAbove) G b0 [.ref h] [oX h 6 [.ref sm, .ref pr, .int (nI L), .int t], aI G pr 64 pa] sz (Ri G (fun (r_ : Int32) (_ : Unit) => r_ = nI (faN t pa L 64)) (fun (_ : Unit) => [oX h 6 [.ref sm, .ref pr, .int (nI L), .int t], aI G pr 64 pa])) := by
  refine CT.go (by decide) (Nat.le_of_ble_eq_true rfl) (fun p e s m below meth c A ls AR QQ hx hb hr hlk hml hown hnm hts hE hA hAb hsz hP hD hS hl hQQ => ?_)
  have hK := hE.1
  have hown : s.vm.findClass RX7 = some m.cls := hown
  have hl : lv_has ls 3 [(0, .ref h)] := hl
  clear hsz
  refine lv_iconst (v := nI 0) hx hb dX7_fromAbove_0 (by decide) ?_
  refine lv_istore_n (lv' := [(1, .int (nI 0)), (0, .ref h)]) hx hb dX7_fromAbove_1 rfl hl (by decide) rfl (fun ls hl => ?_)
  refine lv_iconst (v := nI 0) hx hb dX7_fromAbove_2 (by decide) ?_
  refine lv_istore_n (lv' := [(2, .int (nI 0)), (1, .int (nI 0)), (0, .ref h)]) hx hb dX7_fromAbove_3 rfl hl (by decide) rfl (fun ls hl => ?_)
  have lp_4 : ∀ (n_4 : Nat) (k : Nat), (k ≤ 64) → (64 - k) < n_4 → ∀ (H : Heap) (locs : List Loc) (ls : Array Slot), va_P G.1 vwCl [oX h 6 [.ref sm, .ref pr, .int (nI L), .int t], aI G pr 64 pa] H → va_D A [oX h 6 [.ref sm, .ref pr, .int (nI L), .int t], aI G pr 64 pa] → va_S A s.heap H locs → lv_has ls 3 [(0, .ref h), (1, .int (nI (faN t pa L k))), (2, .int (nI k))] → W p l e (rm_X7_fromAbove) s m AR below meth c H locs 0 0 QQ (F0 m 4 ls []) := by
    intro n_4
    induction n_4 with
    | zero => intro k hk hn_; exact absurd hn_ (Nat.not_lt_zero _)
    | succ n_4 ih_4 =>
      intro k hk hn_4 H locs ls hP hD hS hl
      refine lv_iload_n hx hb dX7_fromAbove_4 rfl (lv_at hl 2 rfl) ?_
      refine lv_bipush (v := nI 64) hx hb dX7_fromAbove_5 (by decide) ?_
      refine N_icmp_ge (tgt := 47) hx hb dX7_fromAbove_7 (by decide) (by omega) (by omega) (fun c_7 => ?_) (fun c_7 => ?_)
      · skip
        obtain rfl : k = 64 := by omega
        refine lv_iload_n hx hb dX7_fromAbove_47 rfl (lv_at hl 1 rfl) ?_
        rw [hQQ]
        exact rt_i hx hb hr hlk  (()) dX7_fromAbove_48 hP hD hS (by first | exact Nat.le_of_ble_eq_true rfl | (simp only [rm_X7_fromAbove]; omega)) (by first | exact Nat.le_of_ble_eq_true rfl | (simp only [rm_X7_fromAbove]; omega)) (by rfl)
      · skip
        have hlv := levC_le (x := k) hL
        refine lv_iload_n hx hb dX7_fromAbove_10 rfl (lv_at hl 1 rfl) ?_
        refine lv_iload_n hx hb dX7_fromAbove_11 rfl (lv_at hl 2 rfl) ?_
        refine lv_aload_n hx hb dX7_fromAbove_12 rfl (lv_at hl 0 rfl) ?_
        refine va_get (D := G.1) (ci := 6) (v := .int (nI L)) (C := RX7) (T := TX7) (N := 4) hx hb hts in_X7 hown hK hP 0 rfl rfl 2 (by decide) (hts _ q378) (fun _ h9 => h9) rfl dX7_fromAbove_13 ?_
        refine fin_i (ws' := (fun (_ : Unit) => [oX h 6 [.ref sm, .ref pr, .int (nI L), .int t], aI G pr 64 pa])) hA hS hP hD [] rfl [(false, 0), (false, 1)] (fun _ => rfl) (by decide) (run_SN (As := [.int (nI k), .int (nI L)]) (rest := [.int (nI (faN t pa L k))]) (n9 := 2) (host := "CrumbPictures") hx hb hml hown hts hE hAb hl.1 hS hP hD [] rfl (by decide) (t_X1_levelOf l G b0 _ k L (by omega) (by omega)) (lw_meth q202) q1269 q106 q201 ⟨by decide, by decide, by decide +kernel⟩ ⟨Nat.le_of_ble_eq_true rfl, Nat.le_of_ble_eq_true rfl⟩ ⟨by first | exact Nat.le_of_ble_eq_true rfl | (simp only [rm_X7_fromAbove, rm_X1_levelOf]; omega), by first | exact Nat.le_of_ble_eq_true rfl | (simp only [rm_X7_fromAbove, rm_X1_levelOf]; omega)⟩ dX7_fromAbove_16 (Nat.le_of_ble_eq_true rfl) rfl rfl) (fun r_1 u_1 H locs h_1 hP hD hS => ?_)
        have hP : va_P G.1 vwCl [oX h 6 [.ref sm, .ref pr, .int (nI L), .int t], aI G pr 64 pa] _ := hP
        have hD : va_D A [oX h 6 [.ref sm, .ref pr, .int (nI L), .int t], aI G pr 64 pa] := hD
        have h_1 : r_1 = (nI (levC k L)) := h_1
        rw [h_1]
        refine lv_aload_n hx hb dX7_fromAbove_19 rfl (lv_at hl 0 rfl) ?_
        refine va_get (D := G.1) (ci := 6) (v := .int (nI L)) (C := RX7) (T := TX7) (N := 4) hx hb hts in_X7 hown hK hP 0 rfl rfl 2 (by decide) (hts _ q378) (fun _ h9 => h9) rfl dX7_fromAbove_20 ?_
        refine N_icmp_ne (tgt := 38) hx hb dX7_fromAbove_23 (by decide) (by omega) (by omega) (fun c_23 => ?_) (fun c_23 => ?_)
        · skip
          refine lv_iconst (v := nI 0) hx hb dX7_fromAbove_38 (by decide) ?_
          refine N_iadd hx hb dX7_fromAbove_39 ?_
          refine lv_istore_n (lv' := [(1, .int (nI (faN t pa L k))), (0, .ref h), (2, .int (nI k))]) hx hb dX7_fromAbove_40 rfl hl (by decide) rfl (fun ls hl => ?_)
          refine N_iinc (a := k) (b := 1) (k9 := 2) (lv' := [(2, .int (nI (k + 1))), (1, .int (nI (faN t pa L k))), (0, .ref h)]) hx hb dX7_fromAbove_41 hl rfl rfl (by decide) rfl (fun ls hl => ?_)
          refine lv_goto (tgt := 4) hx hb dX7_fromAbove_44 (by decide) ?_
          have hl : lv_has ls 3 [(0, .ref h), (1, .int (nI (faN t pa L k))), (2, .int (nI (k + 1)))] := lv_sub hl [2, 1, 0] rfl
          have e_2 : (nI (faN t pa L k)) = (nI (faN t pa L (k + 1))) := by first | exact congrArg nI (by show _ = faN t pa L k + (if _ then _ else _); rw [if_pos c_23]) | exact congrArg nI (by show _ = faN t pa L k + (if _ then _ else _); rw [if_neg c_23]; rfl)
          rw [e_2] at hl
          have hl : lv_has ls 3 [(0, .ref h), (1, .int (nI (faN t pa L (k + 1)))), (2, .int (nI (k + 1)))] := hl
          exact ih_4 (k + 1) (by omega) (by omega) _ _ _ hP hD hS hl
        · skip
          have hlt := lev_top (by omega) hL1 hL c_23
          refine lv_aload_n hx hb dX7_fromAbove_26 rfl (lv_at hl 0 rfl) ?_
          refine lv_iload_n hx hb dX7_fromAbove_27 rfl (lv_at hl 2 rfl) ?_
          refine lv_aload_n hx hb dX7_fromAbove_28 rfl (lv_at hl 0 rfl) ?_
          refine va_get (D := G.1) (ci := 6) (v := .int (nI L)) (C := RX7) (T := TX7) (N := 4) hx hb hts in_X7 hown hK hP 0 rfl rfl 2 (by decide) (hts _ q378) (fun _ h9 => h9) rfl dX7_fromAbove_29 ?_
          rcases L_cases hL1 hL with eL | eL | eL
          · refine W.eq (g2 := F0 m 32 ls [.int (nI 1), .int (nI k), .ref h, .int (nI (faN t pa L k))]) (by rw [eL]) ?_
            rw [eL] at hlt
            refine fin_i (ws' := (fun (_ : Unit) => [oX h 6 [.ref sm, .ref pr, .int (nI L), .int t], aI G pr 64 pa])) hA hS hP hD [0, 1] rfl [(true, 0), (true, 1)] (fun _ => rfl) (by decide) (run_V (As := [.int (nI k), .int (nI 1)]) (rest := [.int (nI (faN t pa L k))]) (n9 := 2) hx hb hml hown hts hE hAb hl.1 hS hP hD [0, 1] rfl (by decide) (t_X7_count_1 l G b0 _ h sm pr L t k pa (by omega) (by omega) (by omega)) (lw_V q1270 q1272 qs45 q119 q1273) 0 rfl rfl ⟨rfl, by decide, by decide, by decide +kernel⟩ ⟨Nat.le_of_ble_eq_true rfl, Nat.le_of_ble_eq_true rfl⟩ ⟨by first | exact Nat.le_of_ble_eq_true rfl | (simp only [rm_X7_fromAbove, rm_X7_count_1]; omega), by first | exact Nat.le_of_ble_eq_true rfl | (simp only [rm_X7_fromAbove, rm_X7_count_1]; omega)⟩ dX7_fromAbove_32 (Nat.le_of_ble_eq_true rfl) rfl rfl) (fun r_3 u_3 H locs h_3 hP hD hS => ?_)
            have hP : va_P G.1 vwCl [oX h 6 [.ref sm, .ref pr, .int (nI L), .int t], aI G pr 64 pa] _ := hP
            have hD : va_D A [oX h 6 [.ref sm, .ref pr, .int (nI L), .int t], aI G pr 64 pa] := hD
            have h_3 : r_3 = (nI (cnU t pa 0 k)) := h_3
            rw [h_3]
            refine W.eq (g2 := F0 m 35 ls [.int (nI (cnU t pa (L - 1) k)), .int (nI (faN t pa L k))]) (by rw [eL]) ?_
            refine lv_goto (tgt := 39) hx hb dX7_fromAbove_35 (by decide) ?_
            refine N_iadd hx hb dX7_fromAbove_39 ?_
            refine lv_istore_n (lv' := [(1, .int (nI ((faN t pa L k) + (cnU t pa (L - 1) k)))), (0, .ref h), (2, .int (nI k))]) hx hb dX7_fromAbove_40 rfl hl (by decide) rfl (fun ls hl => ?_)
            refine N_iinc (a := k) (b := 1) (k9 := 2) (lv' := [(2, .int (nI (k + 1))), (1, .int (nI ((faN t pa L k) + (cnU t pa (L - 1) k)))), (0, .ref h)]) hx hb dX7_fromAbove_41 hl rfl rfl (by decide) rfl (fun ls hl => ?_)
            refine lv_goto (tgt := 4) hx hb dX7_fromAbove_44 (by decide) ?_
            have hl : lv_has ls 3 [(0, .ref h), (1, .int (nI ((faN t pa L k) + (cnU t pa (L - 1) k)))), (2, .int (nI (k + 1)))] := lv_sub hl [2, 1, 0] rfl
            have e_4 : (nI ((faN t pa L k) + (cnU t pa (L - 1) k))) = (nI (faN t pa L (k + 1))) := by first | exact congrArg nI (by show _ = faN t pa L k + (if _ then _ else _); rw [if_pos c_23]) | exact congrArg nI (by show _ = faN t pa L k + (if _ then _ else _); rw [if_neg c_23]; rfl)
            rw [e_4] at hl
            have hl : lv_has ls 3 [(0, .ref h), (1, .int (nI (faN t pa L (k + 1)))), (2, .int (nI (k + 1)))] := hl
            exact ih_4 (k + 1) (by omega) (by omega) _ _ _ hP hD hS hl
          · refine W.eq (g2 := F0 m 32 ls [.int (nI 2), .int (nI k), .ref h, .int (nI (faN t pa L k))]) (by rw [eL]) ?_
            rw [eL] at hlt
            refine fin_i (ws' := (fun (_ : Unit) => [oX h 6 [.ref sm, .ref pr, .int (nI L), .int t], aI G pr 64 pa])) hA hS hP hD [0, 1] rfl [(true, 0), (true, 1)] (fun _ => rfl) (by decide) (run_V (As := [.int (nI k), .int (nI 2)]) (rest := [.int (nI (faN t pa L k))]) (n9 := 2) hx hb hml hown hts hE hAb hl.1 hS hP hD [0, 1] rfl (by decide) (t_X7_count_2 l G b0 _ h sm pr L t k pa (by omega) (by omega) (by omega)) (lw_V q1270 q1272 qs45 q119 q1273) 0 rfl rfl ⟨rfl, by decide, by decide, by decide +kernel⟩ ⟨Nat.le_of_ble_eq_true rfl, Nat.le_of_ble_eq_true rfl⟩ ⟨by first | exact Nat.le_of_ble_eq_true rfl | (simp only [rm_X7_fromAbove, rm_X7_count_2]; omega), by first | exact Nat.le_of_ble_eq_true rfl | (simp only [rm_X7_fromAbove, rm_X7_count_2]; omega)⟩ dX7_fromAbove_32 (Nat.le_of_ble_eq_true rfl) rfl rfl) (fun r_5 u_5 H locs h_5 hP hD hS => ?_)
            have hP : va_P G.1 vwCl [oX h 6 [.ref sm, .ref pr, .int (nI L), .int t], aI G pr 64 pa] _ := hP
            have hD : va_D A [oX h 6 [.ref sm, .ref pr, .int (nI L), .int t], aI G pr 64 pa] := hD
            have h_5 : r_5 = (nI (cnU t pa 1 k)) := h_5
            rw [h_5]
            refine W.eq (g2 := F0 m 35 ls [.int (nI (cnU t pa (L - 1) k)), .int (nI (faN t pa L k))]) (by rw [eL]) ?_
            refine lv_goto (tgt := 39) hx hb dX7_fromAbove_35 (by decide) ?_
            refine N_iadd hx hb dX7_fromAbove_39 ?_
            refine lv_istore_n (lv' := [(1, .int (nI ((faN t pa L k) + (cnU t pa (L - 1) k)))), (0, .ref h), (2, .int (nI k))]) hx hb dX7_fromAbove_40 rfl hl (by decide) rfl (fun ls hl => ?_)
            refine N_iinc (a := k) (b := 1) (k9 := 2) (lv' := [(2, .int (nI (k + 1))), (1, .int (nI ((faN t pa L k) + (cnU t pa (L - 1) k)))), (0, .ref h)]) hx hb dX7_fromAbove_41 hl rfl rfl (by decide) rfl (fun ls hl => ?_)
            refine lv_goto (tgt := 4) hx hb dX7_fromAbove_44 (by decide) ?_
            have hl : lv_has ls 3 [(0, .ref h), (1, .int (nI ((faN t pa L k) + (cnU t pa (L - 1) k)))), (2, .int (nI (k + 1)))] := lv_sub hl [2, 1, 0] rfl
            have e_6 : (nI ((faN t pa L k) + (cnU t pa (L - 1) k))) = (nI (faN t pa L (k + 1))) := by first | exact congrArg nI (by show _ = faN t pa L k + (if _ then _ else _); rw [if_pos c_23]) | exact congrArg nI (by show _ = faN t pa L k + (if _ then _ else _); rw [if_neg c_23]; rfl)
            rw [e_6] at hl
            have hl : lv_has ls 3 [(0, .ref h), (1, .int (nI (faN t pa L (k + 1)))), (2, .int (nI (k + 1)))] := hl
            exact ih_4 (k + 1) (by omega) (by omega) _ _ _ hP hD hS hl
          · refine W.eq (g2 := F0 m 32 ls [.int (nI 3), .int (nI k), .ref h, .int (nI (faN t pa L k))]) (by rw [eL]) ?_
            rw [eL] at hlt
            refine fin_i (ws' := (fun (_ : Unit) => [oX h 6 [.ref sm, .ref pr, .int (nI L), .int t], aI G pr 64 pa])) hA hS hP hD [0, 1] rfl [(true, 0), (true, 1)] (fun _ => rfl) (by decide) (run_V (As := [.int (nI k), .int (nI 3)]) (rest := [.int (nI (faN t pa L k))]) (n9 := 2) hx hb hml hown hts hE hAb hl.1 hS hP hD [0, 1] rfl (by decide) (t_X7_count_3 l G b0 _ h sm pr L t k pa (by omega) (by omega) (by omega)) (lw_V q1270 q1272 qs45 q119 q1273) 0 rfl rfl ⟨rfl, by decide, by decide, by decide +kernel⟩ ⟨Nat.le_of_ble_eq_true rfl, Nat.le_of_ble_eq_true rfl⟩ ⟨by first | exact Nat.le_of_ble_eq_true rfl | (simp only [rm_X7_fromAbove, rm_X7_count_3]; omega), by first | exact Nat.le_of_ble_eq_true rfl | (simp only [rm_X7_fromAbove, rm_X7_count_3]; omega)⟩ dX7_fromAbove_32 (Nat.le_of_ble_eq_true rfl) rfl rfl) (fun r_7 u_7 H locs h_7 hP hD hS => ?_)
            have hP : va_P G.1 vwCl [oX h 6 [.ref sm, .ref pr, .int (nI L), .int t], aI G pr 64 pa] _ := hP
            have hD : va_D A [oX h 6 [.ref sm, .ref pr, .int (nI L), .int t], aI G pr 64 pa] := hD
            have h_7 : r_7 = (nI (cnU t pa 2 k)) := h_7
            rw [h_7]
            refine W.eq (g2 := F0 m 35 ls [.int (nI (cnU t pa (L - 1) k)), .int (nI (faN t pa L k))]) (by rw [eL]) ?_
            refine lv_goto (tgt := 39) hx hb dX7_fromAbove_35 (by decide) ?_
            refine N_iadd hx hb dX7_fromAbove_39 ?_
            refine lv_istore_n (lv' := [(1, .int (nI ((faN t pa L k) + (cnU t pa (L - 1) k)))), (0, .ref h), (2, .int (nI k))]) hx hb dX7_fromAbove_40 rfl hl (by decide) rfl (fun ls hl => ?_)
            refine N_iinc (a := k) (b := 1) (k9 := 2) (lv' := [(2, .int (nI (k + 1))), (1, .int (nI ((faN t pa L k) + (cnU t pa (L - 1) k)))), (0, .ref h)]) hx hb dX7_fromAbove_41 hl rfl rfl (by decide) rfl (fun ls hl => ?_)
            refine lv_goto (tgt := 4) hx hb dX7_fromAbove_44 (by decide) ?_
            have hl : lv_has ls 3 [(0, .ref h), (1, .int (nI ((faN t pa L k) + (cnU t pa (L - 1) k)))), (2, .int (nI (k + 1)))] := lv_sub hl [2, 1, 0] rfl
            have e_8 : (nI ((faN t pa L k) + (cnU t pa (L - 1) k))) = (nI (faN t pa L (k + 1))) := by first | exact congrArg nI (by show _ = faN t pa L k + (if _ then _ else _); rw [if_pos c_23]) | exact congrArg nI (by show _ = faN t pa L k + (if _ then _ else _); rw [if_neg c_23]; rfl)
            rw [e_8] at hl
            have hl : lv_has ls 3 [(0, .ref h), (1, .int (nI (faN t pa L (k + 1)))), (2, .int (nI (k + 1)))] := hl
            exact ih_4 (k + 1) (by omega) (by omega) _ _ _ hP hD hS hl
  have hl : lv_has ls 3 [(0, .ref h), (1, .int (nI 0)), (2, .int (nI 0))] := lv_sub hl [2, 1, 0] rfl
  have e_9 : (nI 0) = (nI (faN t pa L 0)) := by rfl
  rw [e_9] at hl
  have hl : lv_has ls 3 [(0, .ref h), (1, .int (nI (faN t pa L 0))), (2, .int (nI 0))] := hl
  exact lp_4 _ 0 (by omega) (Nat.lt_succ_self _) _ _ _ hP hD hS hl
def rm_X7_areSmall : Room := ({ frames := 1, cells := 0, slots := 0, locals := 30 } : Room)
set_option maxHeartbeats 400000 in
set_option maxRecDepth 100000 in
theorem t_X7_areSmall (l : Launch) (G : GG) (b0 sz : Nat) (h sm pr L : Nat) (t : Int32) (x j : Nat) (q : Nat → Bool) (hxx : x < 64) (hj1 : 1 ≤ j) (hj3 : j ≤ 3) (hr8 : x / 8 * 2 ^ (j - 1) < 8 ∧ x % 8 * 2 ^ (j - 1) < 8) : CT l yX7_areSmall cX7_areSmall 5 (some FieldType.boolean) (rm_X7_areSmall) G b0 [.ref h, .int (nI x), .int (nI j)] [oX h 6 [.ref sm, .ref pr, .int (nI L), .int t], aZ G sm 64 (bF q)] sz (Ri G (fun (r_ : Int32) (_ : Unit) => r_ = bI (arU q j x)) (fun (_ : Unit) => [oX h 6 [.ref sm, .ref pr, .int (nI L), .int t], aZ G sm 64 (bF q)])) := by
  refine CT.go (by decide) (Nat.le_of_ble_eq_true rfl) (fun p e s m below meth c A ls AR QQ hx hb hr hlk hml hown hnm hts hE hA hAb hsz hP hD hS hl hQQ => ?_)
  have hK := hE.1
  have hown : s.vm.findClass RX7 = some m.cls := hown
  have hl : lv_has ls 5 [(0, .ref h), (1, .int (nI x)), (2, .int (nI j))] := hl
  clear hsz
  refine lv_iconst (v := nI 1) hx hb dX7_areSmall_0 (by decide) ?_
  refine lv_istore_n (lv' := [(3, .int (nI 1)), (0, .ref h), (1, .int (nI x)), (2, .int (nI j))]) hx hb dX7_areSmall_1 rfl hl (by decide) rfl (fun ls hl => ?_)
  refine lv_iconst (v := nI 0) hx hb dX7_areSmall_2 (by decide) ?_
  refine lv_istore (lv' := [(4, .int (nI 0)), (3, .int (nI 1)), (0, .ref h), (1, .int (nI x)), (2, .int (nI j))]) hx hb dX7_areSmall_3 hl (by decide) rfl (fun ls hl => ?_)
  have lp_5 : ∀ (n_5 : Nat) (k : Nat), (k ≤ 4) → (j = 1 → k = 0) → (4 - k) < n_5 → ∀ (H : Heap) (locs : List Loc) (ls : Array Slot), va_P G.1 vwCl [oX h 6 [.ref sm, .ref pr, .int (nI L), .int t], aZ G sm 64 (bF q)] H → va_D A [oX h 6 [.ref sm, .ref pr, .int (nI L), .int t], aZ G sm 64 (bF q)] → va_S A s.heap H locs → lv_has ls 5 [(0, .ref h), (1, .int (nI x)), (2, .int (nI j)), (3, .int (bI (arK q x k))), (4, .int (nI k))] → W p l e (rm_X7_areSmall) s m AR below meth c H locs 0 0 QQ (F0 m 5 ls []) := by
    intro n_5
    induction n_5 with
    | zero => intro k hk h1k hn_; exact absurd hn_ (Nat.not_lt_zero _)
    | succ n_5 ih_5 =>
      intro k hk h1k hn_5 H locs ls hP hD hS hl
      refine lv_iload hx hb dX7_areSmall_5 (lv_at hl 4 rfl) ?_
      refine lv_iconst (v := nI 4) hx hb dX7_areSmall_7 (by decide) ?_
      refine N_icmp_ge (tgt := 36) hx hb dX7_areSmall_8 (by decide) (by omega) (by omega) (fun c_8 => ?_) (fun c_8 => ?_)
      · skip
        refine lv_iload_n hx hb dX7_areSmall_36 rfl (lv_at hl 3 rfl) ?_
        rw [hQQ]
        exact rt_z hx hb hr hlk (by first | exact bI_nar _ | rfl) (()) dX7_areSmall_37 hP hD hS (by first | exact Nat.le_of_ble_eq_true rfl | (simp only [rm_X7_areSmall]; omega)) (by first | exact Nat.le_of_ble_eq_true rfl | (simp only [rm_X7_areSmall]; omega)) (by first | exact congrArg bI (arU_e (by omega) (by omega)) | exact congrArg bI (arU_1 (h1k (by omega)) (by omega)))
      · skip
        refine lv_iload_n hx hb dX7_areSmall_11 rfl (lv_at hl 2 rfl) ?_
        refine lv_iconst (v := nI 1) hx hb dX7_areSmall_12 (by decide) ?_
        refine N_icmp_le (tgt := 36) hx hb dX7_areSmall_13 (by decide) (by omega) (by omega) (fun c_13 => ?_) (fun c_13 => ?_)
        · skip
          refine lv_iload_n hx hb dX7_areSmall_36 rfl (lv_at hl 3 rfl) ?_
          rw [hQQ]
          exact rt_z hx hb hr hlk (by first | exact bI_nar _ | rfl) (()) dX7_areSmall_37 hP hD hS (by first | exact Nat.le_of_ble_eq_true rfl | (simp only [rm_X7_areSmall]; omega)) (by first | exact Nat.le_of_ble_eq_true rfl | (simp only [rm_X7_areSmall]; omega)) (by first | exact congrArg bI (arU_e (by omega) (by omega)) | exact congrArg bI (arU_1 (h1k (by omega)) (by omega)))
        · skip
          have hch := ch_in (k := k) (by omega) hj3 (by omega) hr8
          refine lv_iload_n hx hb dX7_areSmall_16 rfl (lv_at hl 3 rfl) ?_
          refine lv_aload_n hx hb dX7_areSmall_17 rfl (lv_at hl 0 rfl) ?_
          refine va_get (D := G.1) (ci := 6) (v := .ref sm) (C := RX7) (T := TX7) (N := 4) hx hb hts in_X7 hown hK hP 0 rfl rfl 0 (by decide) (hts _ q376) (fun _ h9 => h9) rfl dX7_areSmall_18 ?_
          refine lv_iload_n hx hb dX7_areSmall_21 rfl (lv_at hl 1 rfl) ?_
          refine lv_iload hx hb dX7_areSmall_22 (lv_at hl 4 rfl) ?_
          refine fin_i (ws' := (fun (_ : Unit) => [oX h 6 [.ref sm, .ref pr, .int (nI L), .int t], aZ G sm 64 (bF q)])) hA hS hP hD [] rfl [(false, 0), (false, 1)] (fun _ => rfl) (by decide) (run_S (As := [.int (nI x), .int (nI k)]) (rest := [.ref sm, .int (bI (arK q x k))]) (n9 := 2) hx hb hml hown hts hE hAb hl.1 hS hP hD [] rfl (by decide) (t_X7_child l G b0 _ x k (by omega) (by omega)) (lw_S q1283 q1284 q119 q1285) ⟨by decide, by decide, by decide +kernel⟩ ⟨Nat.le_of_ble_eq_true rfl, Nat.le_of_ble_eq_true rfl⟩ ⟨by first | exact Nat.le_of_ble_eq_true rfl | (simp only [rm_X7_areSmall, rm_X7_child]; omega), by first | exact Nat.le_of_ble_eq_true rfl | (simp only [rm_X7_areSmall, rm_X7_child]; omega)⟩ dX7_areSmall_24 (Nat.le_of_ble_eq_true rfl) rfl rfl) (fun r_1 u_1 H locs h_1 hP hD hS => ?_)
          have hP : va_P G.1 vwCl [oX h 6 [.ref sm, .ref pr, .int (nI L), .int t], aZ G sm 64 (bF q)] _ := hP
          have hD : va_D A [oX h 6 [.ref sm, .ref pr, .int (nI L), .int t], aZ G sm 64 (bF q)] := hD
          have h_1 : r_1 = (nI (chC x k)) := h_1
          rw [h_1]
          refine N_zald hx hb dX7_areSmall_27 hK hP 1 1 rfl rfl (by omega) (by omega) ?_
          refine top_i (y := bI (q (chC x k))) rfl ?_
          refine lv_iand hx hb dX7_areSmall_28 ?_
          refine W.eq (g2 := F0 m 29 ls [.int (bI ((arK q x k) && (q (chC x k))))]) (by rw [bI_and]) ?_
          refine lv_istore_n (lv' := [(3, .int (bI ((arK q x k) && (q (chC x k))))), (0, .ref h), (1, .int (nI x)), (2, .int (nI j)), (4, .int (nI k))]) hx hb dX7_areSmall_29 rfl hl (by decide) rfl (fun ls hl => ?_)
          refine N_iinc (a := k) (b := 1) (k9 := 4) (lv' := [(4, .int (nI (k + 1))), (3, .int (bI ((arK q x k) && (q (chC x k))))), (0, .ref h), (1, .int (nI x)), (2, .int (nI j))]) hx hb dX7_areSmall_30 hl rfl rfl (by decide) rfl (fun ls hl => ?_)
          refine lv_goto (tgt := 5) hx hb dX7_areSmall_33 (by decide) ?_
          have hl : lv_has ls 5 [(0, .ref h), (1, .int (nI x)), (2, .int (nI j)), (3, .int (bI ((arK q x k) && (q (chC x k))))), (4, .int (nI (k + 1)))] := lv_sub hl [2, 3, 4, 1, 0] rfl
          have e_2 : (bI ((arK q x k) && (q (chC x k)))) = (bI (arK q x (k + 1))) := by rfl
          rw [e_2] at hl
          have hl : lv_has ls 5 [(0, .ref h), (1, .int (nI x)), (2, .int (nI j)), (3, .int (bI (arK q x (k + 1)))), (4, .int (nI (k + 1)))] := hl
          exact ih_5 (k + 1) (by omega) (by omega) (by omega) _ _ _ hP hD hS hl
  have hl : lv_has ls 5 [(0, .ref h), (1, .int (nI x)), (2, .int (nI j)), (3, .int (nI 1)), (4, .int (nI 0))] := lv_sub hl [2, 3, 4, 1, 0] rfl
  have e_3 : (nI 1) = (bI (arK q x 0)) := by rfl
  rw [e_3] at hl
  have hl : lv_has ls 5 [(0, .ref h), (1, .int (nI x)), (2, .int (nI j)), (3, .int (bI (arK q x 0))), (4, .int (nI 0))] := hl
  exact lp_5 _ 0 (by omega) (by exact fun _ => rfl) (Nat.lt_succ_self _) _ _ _ hP hD hS hl
def rm_X7_fromBelow : Room := ({ frames := 3, cells := 0, slots := 0, locals := 70 } : Room)
set_option maxHeartbeats 400000 in
set_option maxRecDepth 100000 in
theorem t_X7_fromBelow (l : Launch) (G : GG) (b0 sz : Nat) (h sm pr L : Nat) (t : Int32) (pa : Nat → Int32) (q : Nat → Bool) (hL1 : 1 ≤ L) (hL : L ≤ 3) : CT l yX7_fromBelow cX7_fromBelow 5 (some FieldType.int) (rm_X7_fromBelow) G b0 [.ref h] [oX h 6 [.ref sm, .ref pr, .int (nI L), .int t], aI G pr 64 pa, aZ G sm 64 (bF q)] sz (Ri G (fun (r_ : Int32) (_ : Unit) => r_ = nI (fbN (fbJ t pa L q L) L 64)) (fun (_ : Unit) => [oX h 6 [.ref sm, .ref pr, .int (nI L), .int t], aI G pr 64 pa, aZ G sm 64 (bF (fbJ t pa L q L))])) := by
  refine CT.go (by decide) (Nat.le_of_ble_eq_true rfl) (fun p e s m below meth c A ls AR QQ hx hb hr hlk hml hown hnm hts hE hA hAb hsz hP hD hS hl hQQ => ?_)
  have hK := hE.1
  have hown : s.vm.findClass RX7 = some m.cls := hown
  have hl : lv_has ls 5 [(0, .ref h)] := hl
  clear hsz
  refine lv_iconst (v := nI 1) hx hb dX7_fromBelow_0 (by decide) ?_
  refine lv_istore_n (lv' := [(1, .int (nI 1)), (0, .ref h)]) hx hb dX7_fromBelow_1 rfl hl (by decide) rfl (fun ls hl => ?_)
  have lp_2 : ∀ (n_2 : Nat) (j : Nat), (1 ≤ j) → (j ≤ L + 1) → (L + 1 - j) < n_2 → ∀ (H : Heap) (locs : List Loc) (ls : Array Slot), va_P G.1 vwCl [oX h 6 [.ref sm, .ref pr, .int (nI L), .int t], aI G pr 64 pa, aZ G sm 64 (bF (fbJ t pa L q (j - 1)))] H → va_D A [oX h 6 [.ref sm, .ref pr, .int (nI L), .int t], aI G pr 64 pa, aZ G sm 64 (bF (fbJ t pa L q (j - 1)))] → va_S A s.heap H locs → lv_has ls 5 [(0, .ref h), (1, .int (nI j))] → W p l e (rm_X7_fromBelow) s m AR below meth c H locs 0 0 QQ (F0 m 2 ls []) := by
    intro n_2
    induction n_2 with
    | zero => intro j hj1 hj4 hn_; exact absurd hn_ (Nat.not_lt_zero _)
    | succ n_2 ih_2 =>
      intro j hj1 hj4 hn_2 H locs ls hP hD hS hl
      refine lv_iload_n hx hb dX7_fromBelow_2 rfl (lv_at hl 1 rfl) ?_
      refine lv_aload_n hx hb dX7_fromBelow_3 rfl (lv_at hl 0 rfl) ?_
      refine va_get (D := G.1) (ci := 6) (v := .int (nI L)) (C := RX7) (T := TX7) (N := 4) hx hb hts in_X7 hown hK hP 0 rfl rfl 2 (by decide) (hts _ q378) (fun _ h9 => h9) rfl dX7_fromBelow_4 ?_
      refine N_icmp_gt (tgt := 79) hx hb dX7_fromBelow_7 (by decide) (by omega) (by omega) (fun c_7 => ?_) (fun c_7 => ?_)
      · skip
        obtain rfl : j = L + 1 := by omega
        have hP : va_P G.1 vwCl [oX h 6 [.ref sm, .ref pr, .int (nI L), .int t], aI G pr 64 pa, aZ G sm 64 (bF (fbJ t pa L q L))] _ := hP
        have hD : va_D A [oX h 6 [.ref sm, .ref pr, .int (nI L), .int t], aI G pr 64 pa, aZ G sm 64 (bF (fbJ t pa L q L))] := hD
        refine lv_iconst (v := nI 0) hx hb dX7_fromBelow_79 (by decide) ?_
        refine lv_istore_n (lv' := [(1, .int (nI 0)), (0, .ref h)]) hx hb dX7_fromBelow_80 rfl hl (by decide) rfl (fun ls hl => ?_)
        refine lv_iconst (v := nI 0) hx hb dX7_fromBelow_81 (by decide) ?_
        refine lv_istore_n (lv' := [(2, .int (nI 0)), (1, .int (nI 0)), (0, .ref h)]) hx hb dX7_fromBelow_82 rfl hl (by decide) rfl (fun ls hl => ?_)
        have lp_83 : ∀ (n_83 : Nat) (k : Nat), (k ≤ 64) → (64 - k) < n_83 → ∀ (H : Heap) (locs : List Loc) (ls : Array Slot), va_P G.1 vwCl [oX h 6 [.ref sm, .ref pr, .int (nI L), .int t], aI G pr 64 pa, aZ G sm 64 (bF (fbJ t pa L q L))] H → va_D A [oX h 6 [.ref sm, .ref pr, .int (nI L), .int t], aI G pr 64 pa, aZ G sm 64 (bF (fbJ t pa L q L))] → va_S A s.heap H locs → lv_has ls 5 [(0, .ref h), (1, .int (nI (fbN (fbJ t pa L q L) L k))), (2, .int (nI k))] → W p l e (rm_X7_fromBelow) s m AR below meth c H locs 0 0 QQ (F0 m 83 ls []) := by
          intro n_83
          induction n_83 with
          | zero => intro k hk hn_; exact absurd hn_ (Nat.not_lt_zero _)
          | succ n_83 ih_83 =>
            intro k hk hn_83 H locs ls hP hD hS hl
            refine lv_iload_n hx hb dX7_fromBelow_83 rfl (lv_at hl 2 rfl) ?_
            refine lv_bipush (v := nI 64) hx hb dX7_fromBelow_84 (by decide) ?_
            refine N_icmp_ge (tgt := 169) hx hb dX7_fromBelow_86 (by decide) (by omega) (by omega) (fun c_86 => ?_) (fun c_86 => ?_)
            · skip
              obtain rfl : k = 64 := by omega
              refine lv_iload_n hx hb dX7_fromBelow_169 rfl (lv_at hl 1 rfl) ?_
              rw [hQQ]
              exact rt_i hx hb hr hlk  (()) dX7_fromBelow_170 hP hD hS (by first | exact Nat.le_of_ble_eq_true rfl | (simp only [rm_X7_fromBelow]; omega)) (by first | exact Nat.le_of_ble_eq_true rfl | (simp only [rm_X7_fromBelow]; omega)) (by rfl)
            · skip
              have hlv := levC_le (x := k) hL
              have hfn := fbN_le (fbJ t pa L q L) L k
              refine lv_iload_n hx hb dX7_fromBelow_89 rfl (lv_at hl 2 rfl) ?_
              refine lv_aload_n hx hb dX7_fromBelow_90 rfl (lv_at hl 0 rfl) ?_
              refine va_get (D := G.1) (ci := 6) (v := .int (nI L)) (C := RX7) (T := TX7) (N := 4) hx hb hts in_X7 hown hK hP 0 rfl rfl 2 (by decide) (hts _ q378) (fun _ h9 => h9) rfl dX7_fromBelow_91 ?_
              refine fin_i (ws' := (fun (_ : Unit) => [oX h 6 [.ref sm, .ref pr, .int (nI L), .int t], aI G pr 64 pa, aZ G sm 64 (bF (fbJ t pa L q L))])) hA hS hP hD [] rfl [(false, 0), (false, 1), (false, 2)] (fun _ => rfl) (by decide) (run_SN (As := [.int (nI k), .int (nI L)]) (rest := []) (n9 := 2) (host := "CrumbPictures") hx hb hml hown hts hE hAb hl.1 hS hP hD [] rfl (by decide) (t_X1_levelOf l G b0 _ k L (by omega) (by omega)) (lw_meth q202) q1269 q106 q201 ⟨by decide, by decide, by decide +kernel⟩ ⟨Nat.le_of_ble_eq_true rfl, Nat.le_of_ble_eq_true rfl⟩ ⟨by first | exact Nat.le_of_ble_eq_true rfl | (simp only [rm_X7_fromBelow, rm_X1_levelOf]; omega), by first | exact Nat.le_of_ble_eq_true rfl | (simp only [rm_X7_fromBelow, rm_X1_levelOf]; omega)⟩ dX7_fromBelow_94 (Nat.le_of_ble_eq_true rfl) rfl rfl) (fun r_1 u_1 H locs h_1 hP hD hS => ?_)
              have hP : va_P G.1 vwCl [oX h 6 [.ref sm, .ref pr, .int (nI L), .int t], aI G pr 64 pa, aZ G sm 64 (bF (fbJ t pa L q L))] _ := hP
              have hD : va_D A [oX h 6 [.ref sm, .ref pr, .int (nI L), .int t], aI G pr 64 pa, aZ G sm 64 (bF (fbJ t pa L q L))] := hD
              have h_1 : r_1 = (nI (levC k L)) := h_1
              rw [h_1]
              refine lv_istore_n (lv' := [(3, .int (nI (levC k L))), (0, .ref h), (1, .int (nI (fbN (fbJ t pa L q L) L k))), (2, .int (nI k))]) hx hb dX7_fromBelow_97 rfl hl (by decide) rfl (fun ls hl => ?_)
              refine lv_iload_n hx hb dX7_fromBelow_98 rfl (lv_at hl 0 rfl) ?_
              refine lv_aload_n hx hb dX7_fromBelow_99 rfl (lv_at hl 1 rfl) ?_
              refine va_get (D := G.1) (ci := 6) (v := .int (nI L)) (C := RX7) (T := TX7) (N := 4) hx hb hts in_X7 hown hK hP 0 rfl rfl 2 (by decide) (hts _ q378) (fun _ h9 => h9) rfl dX7_fromBelow_100 ?_
              have K_103 : ∀ (v_2 : Bool) (_ : v_2 = if (levC k L) = L then true else (if ((fbJ t pa L q L) ((8 * ((k / 8) / 2)) + ((k % 8) / 2))) = true then false else true)) (H : Heap) (locs : List Loc) (ls : Array Slot), va_P G.1 vwCl [oX h 6 [.ref sm, .ref pr, .int (nI L), .int t], aI G pr 64 pa, aZ G sm 64 (bF (fbJ t pa L q L))] H → va_D A [oX h 6 [.ref sm, .ref pr, .int (nI L), .int t], aI G pr 64 pa, aZ G sm 64 (bF (fbJ t pa L q L))] → va_S A s.heap H locs → lv_has ls 5 [(3, .int (nI (levC k L))), (0, .ref h), (1, .int (nI (fbN (fbJ t pa L q L) L k))), (2, .int (nI k))] → W p l e (rm_X7_fromBelow) s m AR below meth c H locs 0 0 QQ (F0 m 135 ls [.int (bI v_2)]) := by
                intro v_2 e_v_2 H locs ls hP hD hS hl
                subst e_v_2
                refine lv_istore (lv' := [(4, .int (bI (if (levC k L) = L then true else (if ((fbJ t pa L q L) ((8 * ((k / 8) / 2)) + ((k % 8) / 2))) = true then false else true)))), (3, .int (nI (levC k L))), (0, .ref h), (1, .int (nI (fbN (fbJ t pa L q L) L k))), (2, .int (nI k))]) hx hb dX7_fromBelow_135 hl (by decide) rfl (fun ls hl => ?_)
                have hl : lv_has ls 5 [(4, .int (bI (fbT (fbJ t pa L q L) L k))), (3, .int (nI (levC k L))), (0, .ref h), (1, .int (nI (fbN (fbJ t pa L q L) L k))), (2, .int (nI k))] := hl
                refine lv_iload_n hx hb dX7_fromBelow_137 rfl (lv_at hl 3 rfl) ?_
                refine lv_iload_n hx hb dX7_fromBelow_138 rfl (lv_at hl 1 rfl) ?_
                have K_139 : ∀ (v_3 : Nat) (_ : v_3 = if 0 < (levC k L) then (if ((fbJ t pa L q L) k) = true then (if (fbT (fbJ t pa L q L) L k) = true then 1 else 0) else 0) else 0) (H : Heap) (locs : List Loc) (ls : Array Slot), va_P G.1 vwCl [oX h 6 [.ref sm, .ref pr, .int (nI L), .int t], aI G pr 64 pa, aZ G sm 64 (bF (fbJ t pa L q L))] H → va_D A [oX h 6 [.ref sm, .ref pr, .int (nI L), .int t], aI G pr 64 pa, aZ G sm 64 (bF (fbJ t pa L q L))] → va_S A s.heap H locs → lv_has ls 5 [(4, .int (bI (fbT (fbJ t pa L q L) L k))), (3, .int (nI (levC k L))), (0, .ref h), (1, .int (nI (fbN (fbJ t pa L q L) L k))), (2, .int (nI k))] → W p l e (rm_X7_fromBelow) s m AR below meth c H locs 0 0 QQ (F0 m 161 ls [.int (nI v_3), .int (nI (fbN (fbJ t pa L q L) L k))]) := by
                  intro v_3 e_v_3 H locs ls hP hD hS hl
                  subst e_v_3
                  refine W.eq (g2 := F0 m 161 ls [.int (nI (fbM (fbJ t pa L q L) L k)), .int (nI (fbN (fbJ t pa L q L) L k))]) rfl ?_
                  refine N_iadd hx hb dX7_fromBelow_161 ?_
                  refine lv_istore_n (lv' := [(1, .int (nI ((fbN (fbJ t pa L q L) L k) + (fbM (fbJ t pa L q L) L k)))), (4, .int (bI (fbT (fbJ t pa L q L) L k))), (3, .int (nI (levC k L))), (0, .ref h), (2, .int (nI k))]) hx hb dX7_fromBelow_162 rfl hl (by decide) rfl (fun ls hl => ?_)
                  refine N_iinc (a := k) (b := 1) (k9 := 4) (lv' := [(2, .int (nI (k + 1))), (1, .int (nI ((fbN (fbJ t pa L q L) L k) + (fbM (fbJ t pa L q L) L k)))), (4, .int (bI (fbT (fbJ t pa L q L) L k))), (3, .int (nI (levC k L))), (0, .ref h)]) hx hb dX7_fromBelow_163 hl rfl rfl (by decide) rfl (fun ls hl => ?_)
                  refine lv_goto (tgt := 83) hx hb dX7_fromBelow_166 (by decide) ?_
                  have hl : lv_has ls 5 [(0, .ref h), (1, .int (nI ((fbN (fbJ t pa L q L) L k) + (fbM (fbJ t pa L q L) L k)))), (2, .int (nI (k + 1)))] := lv_sub hl [4, 1, 0] rfl
                  have e_4 : (nI ((fbN (fbJ t pa L q L) L k) + (fbM (fbJ t pa L q L) L k))) = (nI (fbN (fbJ t pa L q L) L (k + 1))) := by rfl
                  rw [e_4] at hl
                  have hl : lv_has ls 5 [(0, .ref h), (1, .int (nI (fbN (fbJ t pa L q L) L (k + 1)))), (2, .int (nI (k + 1)))] := hl
                  exact ih_83 (k + 1) (by omega) (by omega) _ _ _ hP hD hS hl
                refine N_if_le (tgt := 160) hx hb dX7_fromBelow_139 (by decide) (by omega) (fun c_139 => ?_) (fun c_139 => ?_)
                · skip
                  refine lv_iconst (v := nI 0) hx hb dX7_fromBelow_160 (by decide) ?_
                  exact K_139 0 (by first | rfl | (try rw [if_neg (by omega)]) | simp_all) _ _ _ hP hD hS (lv_sub hl [0, 1, 2, 3, 4] rfl)
                · skip
                  refine lv_aload_n hx hb dX7_fromBelow_142 rfl (lv_at hl 2 rfl) ?_
                  refine va_get (D := G.1) (ci := 6) (v := .ref sm) (C := RX7) (T := TX7) (N := 4) hx hb hts in_X7 hown hK hP 0 rfl rfl 0 (by decide) (hts _ q376) (fun _ h9 => h9) rfl dX7_fromBelow_143 ?_
                  refine lv_iload_n hx hb dX7_fromBelow_146 rfl (lv_at hl 4 rfl) ?_
                  refine N_zald hx hb dX7_fromBelow_147 hK hP 2 1 rfl rfl (by omega) (by omega) ?_
                  refine top_i (y := bI ((fbJ t pa L q L) k)) rfl ?_
                  refine B_if_eq (tgt := 160) hx hb dX7_fromBelow_148 (by decide) (fun c_148 => ?_) (fun c_148 => ?_)
                  · skip
                    refine lv_iconst (v := nI 0) hx hb dX7_fromBelow_160 (by decide) ?_
                    exact K_139 0 (by first | rfl | (try rw [if_pos c_139]; try rw [if_neg (ne_true_of_eq_false c_148)]) | simp_all) _ _ _ hP hD hS (lv_sub hl [0, 1, 2, 3, 4] rfl)
                  · skip
                    refine lv_iload hx hb dX7_fromBelow_151 (lv_at hl 0 rfl) ?_
                    refine B_if_eq (tgt := 160) hx hb dX7_fromBelow_153 (by decide) (fun c_153 => ?_) (fun c_153 => ?_)
                    · skip
                      refine lv_iconst (v := nI 0) hx hb dX7_fromBelow_160 (by decide) ?_
                      exact K_139 0 (by first | rfl | (try rw [if_pos c_139]; try rw [if_pos c_148]; try rw [if_neg (ne_true_of_eq_false c_153)]) | simp_all) _ _ _ hP hD hS (lv_sub hl [0, 1, 2, 3, 4] rfl)
                    · skip
                      refine lv_iconst (v := nI 1) hx hb dX7_fromBelow_156 (by decide) ?_
                      refine lv_goto (tgt := 161) hx hb dX7_fromBelow_157 (by decide) ?_
                      exact K_139 1 (by first | rfl | (try rw [if_pos c_139]; try rw [if_pos c_148]; try rw [if_pos c_153]) | simp_all) _ _ _ hP hD hS (lv_sub hl [0, 1, 2, 3, 4] rfl)
              refine N_icmp_eq (tgt := 130) hx hb dX7_fromBelow_103 (by decide) (by omega) (by omega) (fun c_103 => ?_) (fun c_103 => ?_)
              · skip
                refine lv_iconst (v := nI 1) hx hb dX7_fromBelow_130 (by decide) ?_
                refine lv_goto (tgt := 135) hx hb dX7_fromBelow_131 (by decide) ?_
                exact K_103 true (by first | rfl | (try rw [if_pos c_103]) | simp_all) _ _ _ hP hD hS (lv_sub hl [0, 1, 2, 3] rfl)
              · skip
                refine lv_aload_n hx hb dX7_fromBelow_106 rfl (lv_at hl 1 rfl) ?_
                refine va_get (D := G.1) (ci := 6) (v := .ref sm) (C := RX7) (T := TX7) (N := 4) hx hb hts in_X7 hown hK hP 0 rfl rfl 0 (by decide) (hts _ q376) (fun _ h9 => h9) rfl dX7_fromBelow_107 ?_
                refine lv_bipush (v := nI 8) hx hb dX7_fromBelow_110 (by decide) ?_
                refine lv_iload_n hx hb dX7_fromBelow_112 rfl (lv_at hl 3 rfl) ?_
                refine lv_bipush (v := nI 8) hx hb dX7_fromBelow_113 (by decide) ?_
                refine N_idiv hx hb dX7_fromBelow_115 (by omega) (by omega) (by omega) ?_
                refine lv_iconst (v := nI 2) hx hb dX7_fromBelow_116 (by decide) ?_
                refine N_idiv hx hb dX7_fromBelow_117 (by omega) (by omega) (by omega) ?_
                refine N_imul hx hb dX7_fromBelow_118 ?_
                refine lv_iload_n hx hb dX7_fromBelow_119 rfl (lv_at hl 3 rfl) ?_
                refine lv_bipush (v := nI 8) hx hb dX7_fromBelow_120 (by decide) ?_
                refine N_irem hx hb dX7_fromBelow_122 (by omega) (by omega) (by omega) ?_
                refine lv_iconst (v := nI 2) hx hb dX7_fromBelow_123 (by decide) ?_
                refine N_idiv hx hb dX7_fromBelow_124 (by omega) (by omega) (by omega) ?_
                refine N_iadd hx hb dX7_fromBelow_125 ?_
                refine N_zald hx hb dX7_fromBelow_126 hK hP 2 1 rfl rfl (by omega) (by omega) ?_
                refine top_i (y := bI ((fbJ t pa L q L) ((8 * ((k / 8) / 2)) + ((k % 8) / 2)))) rfl ?_
                refine B_if_ne (tgt := 134) hx hb dX7_fromBelow_127 (by decide) (fun c_127 => ?_) (fun c_127 => ?_)
                · skip
                  refine lv_iconst (v := nI 0) hx hb dX7_fromBelow_134 (by decide) ?_
                  exact K_103 false (by first | rfl | (try rw [if_neg c_103]; try rw [if_pos c_127]) | simp_all) _ _ _ hP hD hS (lv_sub hl [0, 1, 2, 3] rfl)
                · skip
                  refine lv_iconst (v := nI 1) hx hb dX7_fromBelow_130 (by decide) ?_
                  refine lv_goto (tgt := 135) hx hb dX7_fromBelow_131 (by decide) ?_
                  exact K_103 true (by first | rfl | (try rw [if_neg c_103]; try rw [if_neg (ne_true_of_eq_false c_127)]) | simp_all) _ _ _ hP hD hS (lv_sub hl [0, 1, 2, 3] rfl)
        have hl : lv_has ls 5 [(0, .ref h), (1, .int (nI 0)), (2, .int (nI 0))] := lv_sub hl [2, 1, 0] rfl
        have e_5 : (nI 0) = (nI (fbN (fbJ t pa L q L) L 0)) := by rfl
        rw [e_5] at hl
        have hl : lv_has ls 5 [(0, .ref h), (1, .int (nI (fbN (fbJ t pa L q L) L 0))), (2, .int (nI 0))] := hl
        exact lp_83 _ 0 (by omega) (Nat.lt_succ_self _) _ _ _ hP hD hS hl
      · skip
        refine lv_iconst (v := nI 0) hx hb dX7_fromBelow_10 (by decide) ?_
        refine lv_istore_n (lv' := [(2, .int (nI 0)), (0, .ref h), (1, .int (nI j))]) hx hb dX7_fromBelow_11 rfl hl (by decide) rfl (fun ls hl => ?_)
        have lp_12 : ∀ (n_12 : Nat) (k : Nat), (k ≤ 64) → (64 - k) < n_12 → ∀ (H : Heap) (locs : List Loc) (ls : Array Slot), va_P G.1 vwCl [oX h 6 [.ref sm, .ref pr, .int (nI L), .int t], aI G pr 64 pa, aZ G sm 64 (bF (fbK t pa L j (fbJ t pa L q (j - 1)) k))] H → va_D A [oX h 6 [.ref sm, .ref pr, .int (nI L), .int t], aI G pr 64 pa, aZ G sm 64 (bF (fbK t pa L j (fbJ t pa L q (j - 1)) k))] → va_S A s.heap H locs → lv_has ls 5 [(0, .ref h), (1, .int (nI j)), (2, .int (nI k))] → W p l e (rm_X7_fromBelow) s m AR below meth c H locs 0 0 QQ (F0 m 12 ls []) := by
          intro n_12
          induction n_12 with
          | zero => intro k hk hn_; exact absurd hn_ (Nat.not_lt_zero _)
          | succ n_12 ih_12 =>
            intro k hk hn_12 H locs ls hP hD hS hl
            refine lv_iload_n hx hb dX7_fromBelow_12 rfl (lv_at hl 2 rfl) ?_
            refine lv_bipush (v := nI 64) hx hb dX7_fromBelow_13 (by decide) ?_
            refine N_icmp_ge (tgt := 73) hx hb dX7_fromBelow_15 (by decide) (by omega) (by omega) (fun c_15 => ?_) (fun c_15 => ?_)
            · skip
              obtain rfl : k = 64 := by omega
              refine N_iinc (a := j) (b := 1) (k9 := 1) (lv' := [(1, .int (nI (j + 1))), (0, .ref h), (2, .int (nI 64))]) hx hb dX7_fromBelow_73 hl rfl rfl (by decide) rfl (fun ls hl => ?_)
              refine lv_goto (tgt := 2) hx hb dX7_fromBelow_76 (by decide) ?_
              have e_6 : (bF (fbK t pa L j (fbJ t pa L q (j - 1)) 64)) = (bF (fbJ t pa L q ((j + 1) - 1))) := by exact congrArg bF (fbJ_s hj1)
              have hP : va_P G.1 vwCl [oX h 6 [.ref sm, .ref pr, .int (nI L), .int t], aI G pr 64 pa, aZ G sm 64 (bF (fbJ t pa L q ((j + 1) - 1)))] _ := cong_P (q0 := 2) (fun j _ => congrFun e_6 j) rfl rfl hP
              have hD : va_D A [oX h 6 [.ref sm, .ref pr, .int (nI L), .int t], aI G pr 64 pa, aZ G sm 64 (bF (fbJ t pa L q ((j + 1) - 1)))] := cong_D (q0 := 2) rfl rfl hD
              have hP : va_P G.1 vwCl [oX h 6 [.ref sm, .ref pr, .int (nI L), .int t], aI G pr 64 pa, aZ G sm 64 (bF (fbJ t pa L q ((j + 1) - 1)))] _ := hP
              have hD : va_D A [oX h 6 [.ref sm, .ref pr, .int (nI L), .int t], aI G pr 64 pa, aZ G sm 64 (bF (fbJ t pa L q ((j + 1) - 1)))] := hD
              have hl : lv_has ls 5 [(0, .ref h), (1, .int (nI (j + 1)))] := lv_sub hl [1, 0] rfl
              exact ih_2 (j + 1) (by omega) (by omega) (by omega) _ _ _ hP hD hS hl
            · skip
              have hlv := levC_le (x := k) hL
              refine lv_aload_n hx hb dX7_fromBelow_18 rfl (lv_at hl 0 rfl) ?_
              refine va_get (D := G.1) (ci := 6) (v := .ref sm) (C := RX7) (T := TX7) (N := 4) hx hb hts in_X7 hown hK hP 0 rfl rfl 0 (by decide) (hts _ q376) (fun _ h9 => h9) rfl dX7_fromBelow_19 ?_
              refine lv_iload_n hx hb dX7_fromBelow_22 rfl (lv_at hl 2 rfl) ?_
              refine lv_iload_n hx hb dX7_fromBelow_23 rfl (lv_at hl 2 rfl) ?_
              refine lv_aload_n hx hb dX7_fromBelow_24 rfl (lv_at hl 0 rfl) ?_
              refine va_get (D := G.1) (ci := 6) (v := .int (nI L)) (C := RX7) (T := TX7) (N := 4) hx hb hts in_X7 hown hK hP 0 rfl rfl 2 (by decide) (hts _ q378) (fun _ h9 => h9) rfl dX7_fromBelow_25 ?_
              refine fin_i (ws' := (fun (_ : Unit) => [oX h 6 [.ref sm, .ref pr, .int (nI L), .int t], aI G pr 64 pa, aZ G sm 64 (bF (fbK t pa L j (fbJ t pa L q (j - 1)) k))])) hA hS hP hD [] rfl [(false, 0), (false, 1), (false, 2)] (fun _ => rfl) (by decide) (run_SN (As := [.int (nI k), .int (nI L)]) (rest := [.int (nI k), .ref sm]) (n9 := 2) (host := "CrumbPictures") hx hb hml hown hts hE hAb hl.1 hS hP hD [] rfl (by decide) (t_X1_levelOf l G b0 _ k L (by omega) (by omega)) (lw_meth q202) q1269 q106 q201 ⟨by decide, by decide, by decide +kernel⟩ ⟨Nat.le_of_ble_eq_true rfl, Nat.le_of_ble_eq_true rfl⟩ ⟨by first | exact Nat.le_of_ble_eq_true rfl | (simp only [rm_X7_fromBelow, rm_X1_levelOf]; omega), by first | exact Nat.le_of_ble_eq_true rfl | (simp only [rm_X7_fromBelow, rm_X1_levelOf]; omega)⟩ dX7_fromBelow_28 (Nat.le_of_ble_eq_true rfl) rfl rfl) (fun r_7 u_7 H locs h_7 hP hD hS => ?_)
              have hP : va_P G.1 vwCl [oX h 6 [.ref sm, .ref pr, .int (nI L), .int t], aI G pr 64 pa, aZ G sm 64 (bF (fbK t pa L j (fbJ t pa L q (j - 1)) k))] _ := hP
              have hD : va_D A [oX h 6 [.ref sm, .ref pr, .int (nI L), .int t], aI G pr 64 pa, aZ G sm 64 (bF (fbK t pa L j (fbJ t pa L q (j - 1)) k))] := hD
              have h_7 : r_7 = (nI (levC k L)) := h_7
              rw [h_7]
              refine lv_iload_n hx hb dX7_fromBelow_31 rfl (lv_at hl 1 rfl) ?_
              have K_32 : ∀ (v_8 : Bool) (_ : v_8 = if (levC k L) = j then (if (nearB t (pa k)) = true then (if (arU (fbK t pa L j (fbJ t pa L q (j - 1)) k) j k) = true then true else false) else false) else ((fbK t pa L j (fbJ t pa L q (j - 1)) k) k)) (H : Heap) (locs : List Loc) (ls : Array Slot), va_P G.1 vwCl [oX h 6 [.ref sm, .ref pr, .int (nI L), .int t], aI G pr 64 pa, aZ G sm 64 (bF (fbK t pa L j (fbJ t pa L q (j - 1)) k))] H → va_D A [oX h 6 [.ref sm, .ref pr, .int (nI L), .int t], aI G pr 64 pa, aZ G sm 64 (bF (fbK t pa L j (fbJ t pa L q (j - 1)) k))] → va_S A s.heap H locs → lv_has ls 5 [(0, .ref h), (1, .int (nI j)), (2, .int (nI k))] → W p l e (rm_X7_fromBelow) s m AR below meth c H locs 0 0 QQ (F0 m 66 ls [.int (bI v_8), .int (nI k), .ref sm]) := by
                intro v_8 e_v_8 H locs ls hP hD hS hl
                subst e_v_8
                refine N_zast (ws' := [oX h 6 [.ref sm, .ref pr, .int (nI L), .int t], aI G pr 64 pa, aZ G sm 64 (bF (va_up (fbK t pa L j (fbJ t pa L q (j - 1)) k) k (if (levC k L) = j then (if (nearB t (pa k)) = true then (if (arU (fbK t pa L j (fbJ t pa L q (j - 1)) k) j k) = true then true else false) else false) else ((fbK t pa L j (fbJ t pa L q (j - 1)) k) k))))]) hx hb dX7_fromBelow_66 hK hP hD hS 2 1 (bI_nar' _) rfl rfl (by omega) (by omega) (by rw [bF_upd]; rfl) (fun H locs hP hD hS => ?_)
                refine N_iinc (a := k) (b := 1) (k9 := 2) (lv' := [(2, .int (nI (k + 1))), (0, .ref h), (1, .int (nI j))]) hx hb dX7_fromBelow_67 hl rfl rfl (by decide) rfl (fun ls hl => ?_)
                refine lv_goto (tgt := 12) hx hb dX7_fromBelow_70 (by decide) ?_
                have hP : va_P G.1 vwCl [oX h 6 [.ref sm, .ref pr, .int (nI L), .int t], aI G pr 64 pa, aZ G sm 64 (bF (fbK t pa L j (fbJ t pa L q (j - 1)) (k + 1)))] _ := hP
                have hD : va_D A [oX h 6 [.ref sm, .ref pr, .int (nI L), .int t], aI G pr 64 pa, aZ G sm 64 (bF (fbK t pa L j (fbJ t pa L q (j - 1)) (k + 1)))] := hD
                have hl : lv_has ls 5 [(0, .ref h), (1, .int (nI j)), (2, .int (nI (k + 1)))] := lv_sub hl [1, 2, 0] rfl
                exact ih_12 (k + 1) (by omega) (by omega) _ _ _ hP hD hS hl
              refine N_icmp_ne (tgt := 60) hx hb dX7_fromBelow_32 (by decide) (by omega) (by omega) (fun c_32 => ?_) (fun c_32 => ?_)
              · skip
                refine lv_aload_n hx hb dX7_fromBelow_60 rfl (lv_at hl 0 rfl) ?_
                refine va_get (D := G.1) (ci := 6) (v := .ref sm) (C := RX7) (T := TX7) (N := 4) hx hb hts in_X7 hown hK hP 0 rfl rfl 0 (by decide) (hts _ q376) (fun _ h9 => h9) rfl dX7_fromBelow_61 ?_
                refine lv_iload_n hx hb dX7_fromBelow_64 rfl (lv_at hl 2 rfl) ?_
                refine N_zald hx hb dX7_fromBelow_65 hK hP 2 1 rfl rfl (by omega) (by omega) ?_
                refine top_i (y := bI ((fbK t pa L j (fbJ t pa L q (j - 1)) k) k)) rfl ?_
                exact K_32 ((fbK t pa L j (fbJ t pa L q (j - 1)) k) k) (by first | rfl | (try rw [if_neg c_32]) | simp_all) _ _ _ hP hD hS (lv_sub hl [0, 1, 2] rfl)
              · skip
                refine lv_aload_n hx hb dX7_fromBelow_35 rfl (lv_at hl 0 rfl) ?_
                refine lv_iload_n hx hb dX7_fromBelow_36 rfl (lv_at hl 2 rfl) ?_
                refine fin_i (ws' := (fun (_ : Unit) => [oX h 6 [.ref sm, .ref pr, .int (nI L), .int t], aI G pr 64 pa, aZ G sm 64 (bF (fbK t pa L j (fbJ t pa L q (j - 1)) k))])) hA hS hP hD [0, 1] rfl [(true, 0), (true, 1), (false, 2)] (fun _ => rfl) (by decide) (run_V (As := [.int (nI k)]) (rest := [.int (nI k), .ref sm]) (n9 := 1) hx hb hml hown hts hE hAb hl.1 hS hP hD [0, 1] rfl (by decide) (t_X7_isNear l G b0 _ h sm pr L t k pa (by omega)) (lw_V q1278 q1280 qs46 q119 q1281) 0 rfl rfl ⟨rfl, by decide, by decide, by decide +kernel⟩ ⟨Nat.le_of_ble_eq_true rfl, Nat.le_of_ble_eq_true rfl⟩ ⟨by first | exact Nat.le_of_ble_eq_true rfl | (simp only [rm_X7_fromBelow, rm_X7_isNear]; omega), by first | exact Nat.le_of_ble_eq_true rfl | (simp only [rm_X7_fromBelow, rm_X7_isNear]; omega)⟩ dX7_fromBelow_37 (Nat.le_of_ble_eq_true rfl) rfl rfl) (fun r_9 u_9 H locs h_9 hP hD hS => ?_)
                have hP : va_P G.1 vwCl [oX h 6 [.ref sm, .ref pr, .int (nI L), .int t], aI G pr 64 pa, aZ G sm 64 (bF (fbK t pa L j (fbJ t pa L q (j - 1)) k))] _ := hP
                have hD : va_D A [oX h 6 [.ref sm, .ref pr, .int (nI L), .int t], aI G pr 64 pa, aZ G sm 64 (bF (fbK t pa L j (fbJ t pa L q (j - 1)) k))] := hD
                have h_9 : r_9 = (bI (nearB t (pa k))) := h_9
                rw [h_9]
                refine B_if_eq (tgt := 56) hx hb dX7_fromBelow_40 (by decide) (fun c_40 => ?_) (fun c_40 => ?_)
                · skip
                  refine lv_iconst (v := nI 0) hx hb dX7_fromBelow_56 (by decide) ?_
                  refine lv_goto (tgt := 66) hx hb dX7_fromBelow_57 (by decide) ?_
                  exact K_32 false (by first | rfl | (try rw [if_pos c_32]; try rw [if_neg (ne_true_of_eq_false c_40)]) | simp_all) _ _ _ hP hD hS (lv_sub hl [0, 1, 2] rfl)
                · skip
                  have hlt := lev_any (by omega) hL c_32 hj1
                  refine lv_aload_n hx hb dX7_fromBelow_43 rfl (lv_at hl 0 rfl) ?_
                  refine lv_iload_n hx hb dX7_fromBelow_44 rfl (lv_at hl 2 rfl) ?_
                  refine lv_iload_n hx hb dX7_fromBelow_45 rfl (lv_at hl 1 rfl) ?_
                  refine fin_i (ws' := (fun (_ : Unit) => [oX h 6 [.ref sm, .ref pr, .int (nI L), .int t], aI G pr 64 pa, aZ G sm 64 (bF (fbK t pa L j (fbJ t pa L q (j - 1)) k))])) hA hS hP hD [0, 2] rfl [(true, 0), (false, 1), (true, 1)] (fun _ => rfl) (by decide) (run_V (As := [.int (nI k), .int (nI j)]) (rest := [.int (nI k), .ref sm]) (n9 := 2) hx hb hml hown hts hE hAb hl.1 hS hP hD [0, 2] rfl (by decide) (t_X7_areSmall l G b0 _ h sm pr L t k j (fbK t pa L j (fbJ t pa L q (j - 1)) k) (by omega) (by omega) (by omega) (by omega)) (lw_V q1290 q1292 qs47 q119 q1293) 0 rfl rfl ⟨rfl, by decide, by decide, by decide +kernel⟩ ⟨Nat.le_of_ble_eq_true rfl, Nat.le_of_ble_eq_true rfl⟩ ⟨by first | exact Nat.le_of_ble_eq_true rfl | (simp only [rm_X7_fromBelow, rm_X7_areSmall]; omega), by first | exact Nat.le_of_ble_eq_true rfl | (simp only [rm_X7_fromBelow, rm_X7_areSmall]; omega)⟩ dX7_fromBelow_46 (Nat.le_of_ble_eq_true rfl) rfl rfl) (fun r_10 u_10 H locs h_10 hP hD hS => ?_)
                  have hP : va_P G.1 vwCl [oX h 6 [.ref sm, .ref pr, .int (nI L), .int t], aI G pr 64 pa, aZ G sm 64 (bF (fbK t pa L j (fbJ t pa L q (j - 1)) k))] _ := hP
                  have hD : va_D A [oX h 6 [.ref sm, .ref pr, .int (nI L), .int t], aI G pr 64 pa, aZ G sm 64 (bF (fbK t pa L j (fbJ t pa L q (j - 1)) k))] := hD
                  have h_10 : r_10 = (bI (arU (fbK t pa L j (fbJ t pa L q (j - 1)) k) j k)) := h_10
                  rw [h_10]
                  refine B_if_eq (tgt := 56) hx hb dX7_fromBelow_49 (by decide) (fun c_49 => ?_) (fun c_49 => ?_)
                  · skip
                    refine lv_iconst (v := nI 0) hx hb dX7_fromBelow_56 (by decide) ?_
                    refine lv_goto (tgt := 66) hx hb dX7_fromBelow_57 (by decide) ?_
                    exact K_32 false (by first | rfl | (try rw [if_pos c_32]; try rw [if_pos c_40]; try rw [if_neg (ne_true_of_eq_false c_49)]) | simp_all) _ _ _ hP hD hS (lv_sub hl [0, 1, 2] rfl)
                  · skip
                    refine lv_iconst (v := nI 1) hx hb dX7_fromBelow_52 (by decide) ?_
                    refine lv_goto (tgt := 66) hx hb dX7_fromBelow_53 (by decide) ?_
                    exact K_32 true (by first | rfl | (try rw [if_pos c_32]; try rw [if_pos c_40]; try rw [if_pos c_49]) | simp_all) _ _ _ hP hD hS (lv_sub hl [0, 1, 2] rfl)
        have hP : va_P G.1 vwCl [oX h 6 [.ref sm, .ref pr, .int (nI L), .int t], aI G pr 64 pa, aZ G sm 64 (bF (fbK t pa L j (fbJ t pa L q (j - 1)) 0))] _ := hP
        have hD : va_D A [oX h 6 [.ref sm, .ref pr, .int (nI L), .int t], aI G pr 64 pa, aZ G sm 64 (bF (fbK t pa L j (fbJ t pa L q (j - 1)) 0))] := hD
        have hl : lv_has ls 5 [(0, .ref h), (1, .int (nI j)), (2, .int (nI 0))] := lv_sub hl [1, 2, 0] rfl
        exact lp_12 _ 0 (by omega) (Nat.lt_succ_self _) _ _ _ hP hD hS hl
  have hP : va_P G.1 vwCl [oX h 6 [.ref sm, .ref pr, .int (nI L), .int t], aI G pr 64 pa, aZ G sm 64 (bF (fbJ t pa L q (1 - 1)))] _ := hP
  have hD : va_D A [oX h 6 [.ref sm, .ref pr, .int (nI L), .int t], aI G pr 64 pa, aZ G sm 64 (bF (fbJ t pa L q (1 - 1)))] := hD
  have hl : lv_has ls 5 [(0, .ref h), (1, .int (nI 1))] := lv_sub hl [1, 0] rfl
  exact lp_2 _ 1 (by omega) (by omega) (Nat.lt_succ_self _) _ _ _ hP hD hS hl
