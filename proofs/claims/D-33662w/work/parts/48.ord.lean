/-! ===== the order: made ===== -/
/-- the band of the n-th add -/
def bqL (L n : Nat) : Nat := if n = 0 then 0 else 3 * (L - 1 - (n - 1) / 3) + (n - 1) % 3 + 1
def odS (L : Nat) : Nat → adT
  | 0 => (0, fun _ => 0, fun _ => 0, fun _ => 0)
  | n + 1 => adR (bqL L n) L (odS L n)
def odM (L : Nat) : Nat → Nat
  | 0 => 0
  | n + 1 => odM L n + cntN (inBd (bqL L n) L) 64
theorem adF_m {b L : Nat} : ∀ (f a : Nat) (s : adT), 64 ≤ a + f → a ≤ 64 → (a < 64 → bndC a L = b) → (adF b L f a s).1 + cntN (inBd b L) a = s.1 + cntN (inBd b L) 64 := by
  intro f
  induction f with
  | zero => intro a s h1 h2 _; have : a = 64 := by omega
            rw [this]; rfl
  | succ f ih =>
    intro a s h1 h2 h3
    unfold adF
    by_cases h : a < 64
    · rw [if_pos h]
      have h4 := cnt_in h (h3 h)
      have h5 := nbS_le (b := b) (L := L) (show a + 1 ≤ 64 by omega)
      have h6 := ih (nbS b L (a + 1)) (s.1 + 1, va_up s.2.1 s.1 a, va_up s.2.2.1 a s.1, va_up s.2.2.2 a b) (by omega) h5.1 (nbS_in (by omega))
      rw [nbS_cnt] at h6
      have h7 : (s.1 + 1, va_up s.2.1 s.1 a, va_up s.2.2.1 a s.1, va_up s.2.2.2 a b).1 = s.1 + 1 := rfl
      rw [h7] at h6
      omega
    · rw [if_neg h]
      have : a = 64 := by omega
      rw [this]
theorem adR_m {b L : Nat} (s : adT) : (adR b L s).1 = s.1 + cntN (inBd b L) 64 := by
  have h := adF_m 64 (nbS b L 0) s (by omega) (nbS_le (by omega)).1 (nbS_in (b := b) (L := L) (by omega))
  rw [nbS_cnt] at h
  exact h
theorem odS_m {L : Nat} : ∀ n, (odS L n).1 = odM L n := by
  intro n
  induction n with
  | zero => rfl
  | succ n ih =>
    show (adR (bqL L n) L (odS L n)).1 = odM L n + _
    rw [adR_m, ih]
theorem odM_le {L n : Nat} (h1 : 1 ≤ L) (h3 : L ≤ 3) (hn : n ≤ 3 * L) : odM L n + cntN (inBd (bqL L n) L) 64 ≤ 64 :=
  (show ∀ L, L ≤ 3 → ∀ n, n ≤ 9 → (1 ≤ L ∧ n ≤ 3 * L → odM L n + cntN (inBd (bqL L n) L) 64 ≤ 64) by decide +kernel) L h3 n (by omega) ⟨h1, hn⟩
theorem od_tab {L : Nat} (h1 : 1 ≤ L) (h3 : L ≤ 3) : ∀ j, j < 64 → (odS L (1 + 3 * L)).2.1 j = orT L j ∧ (odS L (1 + 3 * L)).2.2.1 j = plT L j ∧ (odS L (1 + 3 * L)).2.2.2 j = bndC j L := by
  intro j hj
  exact (show ∀ L, L ≤ 3 → ∀ j, j < 64 → (1 ≤ L → (odS L (1 + 3 * L)).2.1 j = orT L j ∧ (odS L (1 + 3 * L)).2.2.1 j = plT L j ∧ (odS L (1 + 3 * L)).2.2.2 j = bndC j L) by decide +kernel) L h3 j hj h1
theorem od_tm {L : Nat} (h1 : 1 ≤ L) (h3 : L ≤ 3) : (odS L (1 + 3 * L)).1 = 64 := by
  rw [odS_m]
  exact (show ∀ L, L ≤ 3 → (1 ≤ L → odM L (1 + 3 * L) = 64) by decide +kernel) L h3 h1
theorem od_nx {L n n' b : Nat} (h : b = bqL L n) (h' : n' = n + 1) : adR b L ((odS L n).1, (odS L n).2.1, (odS L n).2.2.1, (odS L n).2.2.2) = odS L n' := by
  rw [h, h']
  rfl
theorem bq_k {L j k : Nat} (h1 : 1 ≤ j) (h2 : j ≤ L) (h3 : 1 ≤ k) (h4 : k ≤ 3) : 3 * (j - 1) + k = bqL L (1 + 3 * (L - j) + (k - 1)) := by
  unfold bqL
  rw [if_neg (by omega)]
  omega
def rm_X3_init (L : Nat) : Room := ({ frames := 7, cells := 3 + 2 * (1 + 3 * L), slots := 192 + 4 * (1 + 3 * L), locals := 220 } : Room)
set_option maxHeartbeats 400000 in
set_option maxRecDepth 100000 in
theorem t_X3_init (l : Launch) (G : GG) (b0 sz : Nat) (h L : Nat) (hL1 : 1 ≤ L) (hL : L ≤ 3) : CT l yX3_init cX3_init 4 none (rm_X3_init L) G b0 [.ref h, .int (nI L)] [oX h 2 [.null, .null, .null, .int (nI 0)]] sz (Rv G (fun (u : Nat × Nat × Nat) => True) (fun (u : Nat × Nat × Nat) => [oX h 2 [.ref u.1, .ref u.2.1, .ref u.2.2, .int (nI 64)], aI G u.1 64 (nF (orT L)), aI G u.2.1 64 (nF (plT L)), aI G u.2.2 64 (nF (fun j => bndC j L))])) := by
  refine CT.go (by decide) (Nat.le_of_ble_eq_true rfl) (fun p e s m below meth c A ls AR QQ hx hb hr hlk hml hown hnm hts hE hA hAb hsz hP hD hS hl hQQ => ?_)
  have hK := hE.1
  have hown : s.vm.findClass RX3 = some m.cls := hown
  have hl : lv_has ls 4 [(0, .ref h), (1, .int (nI L))] := hl
  clear hsz
  refine lv_aload_n hx hb dX3_init_0 rfl (lv_at hl 0 rfl) ?_
  refine O_init hx hb (hml.trans hl.1.symm) hown hts q182 q150 q151 dX3_init_1 (Nat.le_of_ble_eq_true rfl) (Nat.le_of_ble_eq_true rfl) ?_
  refine lv_aload_n hx hb dX3_init_4 rfl (lv_at hl 0 rfl) ?_
  refine lv_bipush (v := nI 64) hx hb dX3_init_5 (by decide) ?_
  refine A_newa (atype := .int) (ty := .int) (a9 := (64, .inl (fun _ => 0))) (t0 := 0) hx hb hts q175 rfl (fun _ h_ => by cases h_) hK hP hD hS hA rfl (fun _ => rfl) (by omega) (by first | exact Nat.le_of_ble_eq_true rfl | (simp only [componentBytes]; omega)) (by exact (by first | exact Nat.le_of_ble_eq_true rfl | omega | (simp only [rm_X3_init]; omega))) (by exact (by first | exact Nat.le_of_ble_eq_true rfl | omega | (simp only [rm_X3_init]; omega))) dX3_init_7 (fun q1 H hP hD hS => ?_)
  have hP : va_P G.1 vwCl [oX h 2 [.null, .null, .null, .int (nI 0)], aI G q1 64 (fun _ => 0)] _ := hP
  have hD : va_D A [oX h 2 [.null, .null, .null, .int (nI 0)], aI G q1 64 (fun _ => 0)] := hD
  refine va_putF (D := G.1) (ci := 2) (v := .ref q1) (ty := (.array .int)) (C := RX3) (T := TX3) (N := 4) hx hb hts in_X3 tyX3 tyX3_ok nmX3 hown hK hP hD hS 0 rfl rfl 0 (by decide) (hts _ q344) (fun _ h9 => h9) rfl hnm rfl (by decide +kernel) rfl rfl (Nat.le_of_ble_eq_true rfl) dX3_init_9 (fun H locs hP hD hS => ?_)
  have hP : va_P G.1 vwCl [oX h 2 [.ref q1, .null, .null, .int (nI 0)], aI G q1 64 (fun _ => 0)] _ := hP
  have hD : va_D A [oX h 2 [.ref q1, .null, .null, .int (nI 0)], aI G q1 64 (fun _ => 0)] := hD
  refine lv_aload_n hx hb dX3_init_12 rfl (lv_at hl 0 rfl) ?_
  refine lv_bipush (v := nI 64) hx hb dX3_init_13 (by decide) ?_
  refine A_newa (atype := .int) (ty := .int) (a9 := (64, .inl (fun _ => 0))) (t0 := 0) hx hb hts q175 rfl (fun _ h_ => by cases h_) hK hP hD hS hA rfl (fun _ => rfl) (by omega) (by first | exact Nat.le_of_ble_eq_true rfl | (simp only [componentBytes]; omega)) (by exact (by first | exact Nat.le_of_ble_eq_true rfl | omega | (simp only [rm_X3_init]; omega))) (by exact (by first | exact Nat.le_of_ble_eq_true rfl | omega | (simp only [rm_X3_init]; omega))) dX3_init_15 (fun q2 H hP hD hS => ?_)
  have hP : va_P G.1 vwCl [oX h 2 [.ref q1, .null, .null, .int (nI 0)], aI G q1 64 (fun _ => 0), aI G q2 64 (fun _ => 0)] _ := hP
  have hD : va_D A [oX h 2 [.ref q1, .null, .null, .int (nI 0)], aI G q1 64 (fun _ => 0), aI G q2 64 (fun _ => 0)] := hD
  refine va_putF (D := G.1) (ci := 2) (v := .ref q2) (ty := (.array .int)) (C := RX3) (T := TX3) (N := 4) hx hb hts in_X3 tyX3 tyX3_ok nmX3 hown hK hP hD hS 0 rfl rfl 1 (by decide) (hts _ q346) (fun _ h9 => h9) rfl hnm rfl (by decide +kernel) rfl rfl (Nat.le_of_ble_eq_true rfl) dX3_init_17 (fun H locs hP hD hS => ?_)
  have hP : va_P G.1 vwCl [oX h 2 [.ref q1, .ref q2, .null, .int (nI 0)], aI G q1 64 (fun _ => 0), aI G q2 64 (fun _ => 0)] _ := hP
  have hD : va_D A [oX h 2 [.ref q1, .ref q2, .null, .int (nI 0)], aI G q1 64 (fun _ => 0), aI G q2 64 (fun _ => 0)] := hD
  refine lv_aload_n hx hb dX3_init_20 rfl (lv_at hl 0 rfl) ?_
  refine lv_bipush (v := nI 64) hx hb dX3_init_21 (by decide) ?_
  refine A_newa (atype := .int) (ty := .int) (a9 := (64, .inl (fun _ => 0))) (t0 := 0) hx hb hts q175 rfl (fun _ h_ => by cases h_) hK hP hD hS hA rfl (fun _ => rfl) (by omega) (by first | exact Nat.le_of_ble_eq_true rfl | (simp only [componentBytes]; omega)) (by exact (by first | exact Nat.le_of_ble_eq_true rfl | omega | (simp only [rm_X3_init]; omega))) (by exact (by first | exact Nat.le_of_ble_eq_true rfl | omega | (simp only [rm_X3_init]; omega))) dX3_init_23 (fun q3 H hP hD hS => ?_)
  have hP : va_P G.1 vwCl [oX h 2 [.ref q1, .ref q2, .null, .int (nI 0)], aI G q1 64 (fun _ => 0), aI G q2 64 (fun _ => 0), aI G q3 64 (fun _ => 0)] _ := hP
  have hD : va_D A [oX h 2 [.ref q1, .ref q2, .null, .int (nI 0)], aI G q1 64 (fun _ => 0), aI G q2 64 (fun _ => 0), aI G q3 64 (fun _ => 0)] := hD
  refine va_putF (D := G.1) (ci := 2) (v := .ref q3) (ty := (.array .int)) (C := RX3) (T := TX3) (N := 4) hx hb hts in_X3 tyX3 tyX3_ok nmX3 hown hK hP hD hS 0 rfl rfl 2 (by decide) (hts _ q348) (fun _ h9 => h9) rfl hnm rfl (by decide +kernel) rfl rfl (Nat.le_of_ble_eq_true rfl) dX3_init_25 (fun H locs hP hD hS => ?_)
  have hP : va_P G.1 vwCl [oX h 2 [.ref q1, .ref q2, .ref q3, .int (nI 0)], aI G q1 64 (fun _ => 0), aI G q2 64 (fun _ => 0), aI G q3 64 (fun _ => 0)] _ := hP
  have hD : va_D A [oX h 2 [.ref q1, .ref q2, .ref q3, .int (nI 0)], aI G q1 64 (fun _ => 0), aI G q2 64 (fun _ => 0), aI G q3 64 (fun _ => 0)] := hD
  have hP : va_P G.1 vwCl [oX h 2 [.ref q1, .ref q2, .ref q3, .int (nI 0)], aI G q1 64 (nF (fun _ => 0)), aI G q2 64 (nF (fun _ => 0)), aI G q3 64 (nF (fun _ => 0))] _ := hP
  have hD : va_D A [oX h 2 [.ref q1, .ref q2, .ref q3, .int (nI 0)], aI G q1 64 (nF (fun _ => 0)), aI G q2 64 (nF (fun _ => 0)), aI G q3 64 (nF (fun _ => 0))] := hD
  refine lv_aload_n hx hb dX3_init_28 rfl (lv_at hl 0 rfl) ?_
  refine lv_iconst (v := nI 0) hx hb dX3_init_29 (by decide) ?_
  refine lv_iload_n hx hb dX3_init_30 rfl (lv_at hl 1 rfl) ?_
  refine fin_v (ws' := (fun (_ : Unit) => [oX h 2 [.ref q1, .ref q2, .ref q3, .int (nI ((adR 0 L (0, (fun _ => 0), (fun _ => 0), (fun _ => 0))).1))], aI G q1 64 (nF ((adR 0 L (0, (fun _ => 0), (fun _ => 0), (fun _ => 0))).2.1)), aI G q2 64 (nF ((adR 0 L (0, (fun _ => 0), (fun _ => 0), (fun _ => 0))).2.2.1)), aI G q3 64 (nF ((adR 0 L (0, (fun _ => 0), (fun _ => 0), (fun _ => 0))).2.2.2))])) hA hS hP hD [0, 1, 2, 3] rfl [(true, 0), (true, 1), (true, 2), (true, 3)] (fun _ => rfl) (by decide) (run_V (As := [.int (nI 0), .int (nI L)]) (rest := []) (n9 := 2) hx hb hml hown hts hE hAb hl.1 hS hP hD [0, 1, 2, 3] rfl (by decide) (t_X3_add l G b0 _ h q1 q2 q3 0 0 L (fun _ => 0) (fun _ => 0) (fun _ => 0) (by omega) (by omega) (by omega) (by exact odM_le (L := L) (n := 0) hL1 hL (by omega))) (lw_V q183 q185 qs0 q108 q186) 0 rfl rfl ⟨rfl, by decide, by decide, by decide +kernel⟩ ⟨Nat.le_of_ble_eq_true rfl, Nat.le_of_ble_eq_true rfl⟩ ⟨by first | exact Nat.le_of_ble_eq_true rfl | (simp only [rm_X3_init, rm_X3_add]; omega), by first | exact Nat.le_of_ble_eq_true rfl | (simp only [rm_X3_init, rm_X3_add]; omega)⟩ dX3_init_31 (Nat.le_of_ble_eq_true rfl) rfl rfl) (fun u_4 H locs h_4 hP hD hS => ?_)
  have hP : va_P G.1 vwCl [oX h 2 [.ref q1, .ref q2, .ref q3, .int (nI ((adR 0 L (0, (fun _ => 0), (fun _ => 0), (fun _ => 0))).1))], aI G q1 64 (nF ((adR 0 L (0, (fun _ => 0), (fun _ => 0), (fun _ => 0))).2.1)), aI G q2 64 (nF ((adR 0 L (0, (fun _ => 0), (fun _ => 0), (fun _ => 0))).2.2.1)), aI G q3 64 (nF ((adR 0 L (0, (fun _ => 0), (fun _ => 0), (fun _ => 0))).2.2.2))] _ := hP
  have hD : va_D A [oX h 2 [.ref q1, .ref q2, .ref q3, .int (nI ((adR 0 L (0, (fun _ => 0), (fun _ => 0), (fun _ => 0))).1))], aI G q1 64 (nF ((adR 0 L (0, (fun _ => 0), (fun _ => 0), (fun _ => 0))).2.1)), aI G q2 64 (nF ((adR 0 L (0, (fun _ => 0), (fun _ => 0), (fun _ => 0))).2.2.1)), aI G q3 64 (nF ((adR 0 L (0, (fun _ => 0), (fun _ => 0), (fun _ => 0))).2.2.2))] := hD
  refine lv_iload_n hx hb dX3_init_34 rfl (lv_at hl 1 rfl) ?_
  refine lv_istore_n (lv' := [(2, .int (nI L)), (0, .ref h), (1, .int (nI L))]) hx hb dX3_init_35 rfl hl (by decide) rfl (fun ls hl => ?_)
  have lp_36 : ∀ (n_36 : Nat) (j : Nat), (j ≤ L) → (j) < n_36 → ∀ (H : Heap) (locs : List Loc) (ls : Array Slot), va_P G.1 vwCl [oX h 2 [.ref q1, .ref q2, .ref q3, .int (nI ((odS L (1 + 3 * (L - j))).1))], aI G q1 64 (nF ((odS L (1 + 3 * (L - j))).2.1)), aI G q2 64 (nF ((odS L (1 + 3 * (L - j))).2.2.1)), aI G q3 64 (nF ((odS L (1 + 3 * (L - j))).2.2.2))] H → va_D A [oX h 2 [.ref q1, .ref q2, .ref q3, .int (nI ((odS L (1 + 3 * (L - j))).1))], aI G q1 64 (nF ((odS L (1 + 3 * (L - j))).2.1)), aI G q2 64 (nF ((odS L (1 + 3 * (L - j))).2.2.1)), aI G q3 64 (nF ((odS L (1 + 3 * (L - j))).2.2.2))] → va_S A s.heap H locs → lv_has ls 4 [(0, .ref h), (1, .int (nI L)), (2, .int (nI j))] → W p l e (rm_X3_init L) s m AR below meth c H locs (3 + 2 * (1 + 3 * (L - j))) (192 + 4 * (1 + 3 * (L - j))) QQ (F0 m 36 ls []) := by
    intro n_36
    induction n_36 with
    | zero => intro j hj3 hn_; exact absurd hn_ (Nat.not_lt_zero _)
    | succ n_36 ih_36 =>
      intro j hj3 hn_36 H locs ls hP hD hS hl
      refine lv_iload_n hx hb dX3_init_36 rfl (lv_at hl 2 rfl) ?_
      refine N_if_le (tgt := 71) hx hb dX3_init_37 (by decide) (by omega) (fun c_37 => ?_) (fun c_37 => ?_)
      · skip
        have ej : j = 0 := by omega
        subst ej
        have hot := od_tab hL1 hL
        have e_5 : ((odS L (1 + 3 * (L - 0))).1) = (64) := by exact od_tm hL1 hL
        rw [e_5] at hP hD
        have e_6 : ∀ j, j < 64 → (nF ((odS L (1 + 3 * (L - 0))).2.1)) j = (nF (orT L)) j := by exact fun i hi => congrArg nI (hot i hi).1
        have hP : va_P G.1 vwCl [oX h 2 [.ref q1, .ref q2, .ref q3, .int (nI 64)], aI G q1 64 (nF (orT L)), aI G q2 64 (nF ((odS L (1 + 3 * (L - 0))).2.2.1)), aI G q3 64 (nF ((odS L (1 + 3 * (L - 0))).2.2.2))] _ := cong_P (q0 := 1) e_6 rfl rfl hP
        have hD : va_D A [oX h 2 [.ref q1, .ref q2, .ref q3, .int (nI 64)], aI G q1 64 (nF (orT L)), aI G q2 64 (nF ((odS L (1 + 3 * (L - 0))).2.2.1)), aI G q3 64 (nF ((odS L (1 + 3 * (L - 0))).2.2.2))] := cong_D (q0 := 1) rfl rfl hD
        have e_7 : ∀ j, j < 64 → (nF ((odS L (1 + 3 * (L - 0))).2.2.1)) j = (nF (plT L)) j := by exact fun i hi => congrArg nI (hot i hi).2.1
        have hP : va_P G.1 vwCl [oX h 2 [.ref q1, .ref q2, .ref q3, .int (nI 64)], aI G q1 64 (nF (orT L)), aI G q2 64 (nF (plT L)), aI G q3 64 (nF ((odS L (1 + 3 * (L - 0))).2.2.2))] _ := cong_P (q0 := 2) e_7 rfl rfl hP
        have hD : va_D A [oX h 2 [.ref q1, .ref q2, .ref q3, .int (nI 64)], aI G q1 64 (nF (orT L)), aI G q2 64 (nF (plT L)), aI G q3 64 (nF ((odS L (1 + 3 * (L - 0))).2.2.2))] := cong_D (q0 := 2) rfl rfl hD
        have e_8 : ∀ j, j < 64 → (nF ((odS L (1 + 3 * (L - 0))).2.2.2)) j = (nF (fun j => bndC j L)) j := by exact fun i hi => congrArg nI (hot i hi).2.2
        have hP : va_P G.1 vwCl [oX h 2 [.ref q1, .ref q2, .ref q3, .int (nI 64)], aI G q1 64 (nF (orT L)), aI G q2 64 (nF (plT L)), aI G q3 64 (nF (fun j => bndC j L))] _ := cong_P (q0 := 3) e_8 rfl rfl hP
        have hD : va_D A [oX h 2 [.ref q1, .ref q2, .ref q3, .int (nI 64)], aI G q1 64 (nF (orT L)), aI G q2 64 (nF (plT L)), aI G q3 64 (nF (fun j => bndC j L))] := cong_D (q0 := 3) rfl rfl hD
        have hP : va_P G.1 vwCl [oX h 2 [.ref q1, .ref q2, .ref q3, .int (nI 64)], aI G q1 64 (nF (orT L)), aI G q2 64 (nF (plT L)), aI G q3 64 (nF (fun j => bndC j L))] _ := hP
        have hD : va_D A [oX h 2 [.ref q1, .ref q2, .ref q3, .int (nI 64)], aI G q1 64 (nF (orT L)), aI G q2 64 (nF (plT L)), aI G q3 64 (nF (fun j => bndC j L))] := hD
        rw [hQQ]
        exact rt_v hx hb hr hlk ((q1, q2, q3)) dX3_init_71 hP hD hS (by first | exact Nat.le_of_ble_eq_true rfl | (simp only [rm_X3_init]; omega)) (by first | exact Nat.le_of_ble_eq_true rfl | (simp only [rm_X3_init]; omega)) trivial
      · skip
        refine lv_iconst (v := nI 1) hx hb dX3_init_40 (by decide) ?_
        refine lv_istore_n (lv' := [(3, .int (nI 1)), (0, .ref h), (1, .int (nI L)), (2, .int (nI j))]) hx hb dX3_init_41 rfl hl (by decide) rfl (fun ls hl => ?_)
        have lp_42 : ∀ (n_42 : Nat) (k : Nat), (1 ≤ k) → (k ≤ 4) → (4 - k) < n_42 → ∀ (H : Heap) (locs : List Loc) (ls : Array Slot), va_P G.1 vwCl [oX h 2 [.ref q1, .ref q2, .ref q3, .int (nI ((odS L (1 + 3 * (L - j) + (k - 1))).1))], aI G q1 64 (nF ((odS L (1 + 3 * (L - j) + (k - 1))).2.1)), aI G q2 64 (nF ((odS L (1 + 3 * (L - j) + (k - 1))).2.2.1)), aI G q3 64 (nF ((odS L (1 + 3 * (L - j) + (k - 1))).2.2.2))] H → va_D A [oX h 2 [.ref q1, .ref q2, .ref q3, .int (nI ((odS L (1 + 3 * (L - j) + (k - 1))).1))], aI G q1 64 (nF ((odS L (1 + 3 * (L - j) + (k - 1))).2.1)), aI G q2 64 (nF ((odS L (1 + 3 * (L - j) + (k - 1))).2.2.1)), aI G q3 64 (nF ((odS L (1 + 3 * (L - j) + (k - 1))).2.2.2))] → va_S A s.heap H locs → lv_has ls 4 [(0, .ref h), (1, .int (nI L)), (2, .int (nI j)), (3, .int (nI k))] → W p l e (rm_X3_init L) s m AR below meth c H locs (3 + 2 * (1 + 3 * (L - j) + (k - 1))) (192 + 4 * (1 + 3 * (L - j) + (k - 1))) QQ (F0 m 42 ls []) := by
          intro n_42
          induction n_42 with
          | zero => intro k hk1 hk4 hn_; exact absurd hn_ (Nat.not_lt_zero _)
          | succ n_42 ih_42 =>
            intro k hk1 hk4 hn_42 H locs ls hP hD hS hl
            refine lv_iload_n hx hb dX3_init_42 rfl (lv_at hl 3 rfl) ?_
            refine lv_iconst (v := nI 3) hx hb dX3_init_43 (by decide) ?_
            refine N_icmp_gt (tgt := 65) hx hb dX3_init_44 (by decide) (by omega) (by omega) (fun c_44 => ?_) (fun c_44 => ?_)
            · skip
              refine N_iincd (a := j) (k9 := 2) (lv' := [(2, .int (nI (j - 1))), (0, .ref h), (1, .int (nI L)), (3, .int (nI k))]) hx hb dX3_init_65 hl rfl rfl (by omega) (by decide) rfl (fun ls hl => ?_)
              refine lv_goto (tgt := 36) hx hb dX3_init_68 (by decide) ?_
              have e_9 : ((odS L (1 + 3 * (L - j) + (k - 1))).1) = ((odS L (1 + 3 * (L - (j - 1)))).1) := by exact (congrArg (fun z => z.1) (congrArg (odS L) (show 1 + 3 * (L - j) + (k - 1) = 1 + 3 * (L - (j - 1)) by omega)))
              rw [e_9] at hP hD
              have e_10 : (nF ((odS L (1 + 3 * (L - j) + (k - 1))).2.1)) = (nF ((odS L (1 + 3 * (L - (j - 1)))).2.1)) := by exact congrArg (fun z => nF z.2.1) (congrArg (odS L) (show 1 + 3 * (L - j) + (k - 1) = 1 + 3 * (L - (j - 1)) by omega))
              have hP : va_P G.1 vwCl [oX h 2 [.ref q1, .ref q2, .ref q3, .int (nI ((odS L (1 + 3 * (L - (j - 1)))).1))], aI G q1 64 (nF ((odS L (1 + 3 * (L - (j - 1)))).2.1)), aI G q2 64 (nF ((odS L (1 + 3 * (L - j) + (k - 1))).2.2.1)), aI G q3 64 (nF ((odS L (1 + 3 * (L - j) + (k - 1))).2.2.2))] _ := cong_P (q0 := 1) (fun j _ => congrFun e_10 j) rfl rfl hP
              have hD : va_D A [oX h 2 [.ref q1, .ref q2, .ref q3, .int (nI ((odS L (1 + 3 * (L - (j - 1)))).1))], aI G q1 64 (nF ((odS L (1 + 3 * (L - (j - 1)))).2.1)), aI G q2 64 (nF ((odS L (1 + 3 * (L - j) + (k - 1))).2.2.1)), aI G q3 64 (nF ((odS L (1 + 3 * (L - j) + (k - 1))).2.2.2))] := cong_D (q0 := 1) rfl rfl hD
              have e_11 : (nF ((odS L (1 + 3 * (L - j) + (k - 1))).2.2.1)) = (nF ((odS L (1 + 3 * (L - (j - 1)))).2.2.1)) := by exact congrArg (fun z => nF z.2.2.1) (congrArg (odS L) (show 1 + 3 * (L - j) + (k - 1) = 1 + 3 * (L - (j - 1)) by omega))
              have hP : va_P G.1 vwCl [oX h 2 [.ref q1, .ref q2, .ref q3, .int (nI ((odS L (1 + 3 * (L - (j - 1)))).1))], aI G q1 64 (nF ((odS L (1 + 3 * (L - (j - 1)))).2.1)), aI G q2 64 (nF ((odS L (1 + 3 * (L - (j - 1)))).2.2.1)), aI G q3 64 (nF ((odS L (1 + 3 * (L - j) + (k - 1))).2.2.2))] _ := cong_P (q0 := 2) (fun j _ => congrFun e_11 j) rfl rfl hP
              have hD : va_D A [oX h 2 [.ref q1, .ref q2, .ref q3, .int (nI ((odS L (1 + 3 * (L - (j - 1)))).1))], aI G q1 64 (nF ((odS L (1 + 3 * (L - (j - 1)))).2.1)), aI G q2 64 (nF ((odS L (1 + 3 * (L - (j - 1)))).2.2.1)), aI G q3 64 (nF ((odS L (1 + 3 * (L - j) + (k - 1))).2.2.2))] := cong_D (q0 := 2) rfl rfl hD
              have e_12 : (nF ((odS L (1 + 3 * (L - j) + (k - 1))).2.2.2)) = (nF ((odS L (1 + 3 * (L - (j - 1)))).2.2.2)) := by exact congrArg (fun z => nF z.2.2.2) (congrArg (odS L) (show 1 + 3 * (L - j) + (k - 1) = 1 + 3 * (L - (j - 1)) by omega))
              have hP : va_P G.1 vwCl [oX h 2 [.ref q1, .ref q2, .ref q3, .int (nI ((odS L (1 + 3 * (L - (j - 1)))).1))], aI G q1 64 (nF ((odS L (1 + 3 * (L - (j - 1)))).2.1)), aI G q2 64 (nF ((odS L (1 + 3 * (L - (j - 1)))).2.2.1)), aI G q3 64 (nF ((odS L (1 + 3 * (L - (j - 1)))).2.2.2))] _ := cong_P (q0 := 3) (fun j _ => congrFun e_12 j) rfl rfl hP
              have hD : va_D A [oX h 2 [.ref q1, .ref q2, .ref q3, .int (nI ((odS L (1 + 3 * (L - (j - 1)))).1))], aI G q1 64 (nF ((odS L (1 + 3 * (L - (j - 1)))).2.1)), aI G q2 64 (nF ((odS L (1 + 3 * (L - (j - 1)))).2.2.1)), aI G q3 64 (nF ((odS L (1 + 3 * (L - (j - 1)))).2.2.2))] := cong_D (q0 := 3) rfl rfl hD
              have hP : va_P G.1 vwCl [oX h 2 [.ref q1, .ref q2, .ref q3, .int (nI ((odS L (1 + 3 * (L - (j - 1)))).1))], aI G q1 64 (nF ((odS L (1 + 3 * (L - (j - 1)))).2.1)), aI G q2 64 (nF ((odS L (1 + 3 * (L - (j - 1)))).2.2.1)), aI G q3 64 (nF ((odS L (1 + 3 * (L - (j - 1)))).2.2.2))] _ := hP
              have hD : va_D A [oX h 2 [.ref q1, .ref q2, .ref q3, .int (nI ((odS L (1 + 3 * (L - (j - 1)))).1))], aI G q1 64 (nF ((odS L (1 + 3 * (L - (j - 1)))).2.1)), aI G q2 64 (nF ((odS L (1 + 3 * (L - (j - 1)))).2.2.1)), aI G q3 64 (nF ((odS L (1 + 3 * (L - (j - 1)))).2.2.2))] := hD
              have hl : lv_has ls 4 [(0, .ref h), (1, .int (nI L)), (2, .int (nI (j - 1)))] := lv_sub hl [1, 2, 0] rfl
              refine W.widen (k := 3 + 2 * (1 + 3 * (L - (j - 1)))) (n := 192 + 4 * (1 + 3 * (L - (j - 1)))) (by first | omega | (simp only [rm_X3_add]; omega)) (by first | omega | (simp only [rm_X3_add]; omega)) ?_
              exact ih_36 (j - 1) (by omega) (by omega) _ _ _ hP hD hS hl
            · skip
              refine lv_aload_n hx hb dX3_init_47 rfl (lv_at hl 0 rfl) ?_
              refine lv_iconst (v := nI 3) hx hb dX3_init_48 (by decide) ?_
              refine lv_iload_n hx hb dX3_init_49 rfl (lv_at hl 2 rfl) ?_
              refine lv_iconst (v := nI 1) hx hb dX3_init_50 (by decide) ?_
              refine N_isub hx hb dX3_init_51 (by omega) ?_
              refine N_imul hx hb dX3_init_52 ?_
              refine lv_iload_n hx hb dX3_init_53 rfl (lv_at hl 3 rfl) ?_
              refine N_iadd hx hb dX3_init_54 ?_
              refine lv_iload_n hx hb dX3_init_55 rfl (lv_at hl 1 rfl) ?_
              refine fin_v (ws' := (fun (_ : Unit) => [oX h 2 [.ref q1, .ref q2, .ref q3, .int (nI ((adR ((3 * (j - 1)) + k) L (((odS L (1 + 3 * (L - j) + (k - 1))).1), ((odS L (1 + 3 * (L - j) + (k - 1))).2.1), ((odS L (1 + 3 * (L - j) + (k - 1))).2.2.1), ((odS L (1 + 3 * (L - j) + (k - 1))).2.2.2))).1))], aI G q1 64 (nF ((adR ((3 * (j - 1)) + k) L (((odS L (1 + 3 * (L - j) + (k - 1))).1), ((odS L (1 + 3 * (L - j) + (k - 1))).2.1), ((odS L (1 + 3 * (L - j) + (k - 1))).2.2.1), ((odS L (1 + 3 * (L - j) + (k - 1))).2.2.2))).2.1)), aI G q2 64 (nF ((adR ((3 * (j - 1)) + k) L (((odS L (1 + 3 * (L - j) + (k - 1))).1), ((odS L (1 + 3 * (L - j) + (k - 1))).2.1), ((odS L (1 + 3 * (L - j) + (k - 1))).2.2.1), ((odS L (1 + 3 * (L - j) + (k - 1))).2.2.2))).2.2.1)), aI G q3 64 (nF ((adR ((3 * (j - 1)) + k) L (((odS L (1 + 3 * (L - j) + (k - 1))).1), ((odS L (1 + 3 * (L - j) + (k - 1))).2.1), ((odS L (1 + 3 * (L - j) + (k - 1))).2.2.1), ((odS L (1 + 3 * (L - j) + (k - 1))).2.2.2))).2.2.2))])) hA hS hP hD [0, 1, 2, 3] rfl [(true, 0), (true, 1), (true, 2), (true, 3)] (fun _ => rfl) (by decide) (run_V (As := [.int (nI ((3 * (j - 1)) + k)), .int (nI L)]) (rest := []) (n9 := 2) hx hb hml hown hts hE hAb hl.1 hS hP hD [0, 1, 2, 3] rfl (by decide) (t_X3_add l G b0 _ h q1 q2 q3 ((odS L (1 + 3 * (L - j) + (k - 1))).1) ((3 * (j - 1)) + k) L ((odS L (1 + 3 * (L - j) + (k - 1))).2.1) ((odS L (1 + 3 * (L - j) + (k - 1))).2.2.1) ((odS L (1 + 3 * (L - j) + (k - 1))).2.2.2) (by omega) (by omega) (by omega) (by rw [odS_m, bq_k (by omega) hj3 hk1 (by omega)]; exact odM_le hL1 hL (by omega))) (lw_V q183 q185 qs0 q108 q186) 0 rfl rfl ⟨rfl, by decide, by decide, by decide +kernel⟩ ⟨Nat.le_of_ble_eq_true rfl, Nat.le_of_ble_eq_true rfl⟩ ⟨by first | exact Nat.le_of_ble_eq_true rfl | (simp only [rm_X3_init, rm_X3_add]; omega), by first | exact Nat.le_of_ble_eq_true rfl | (simp only [rm_X3_init, rm_X3_add]; omega)⟩ dX3_init_56 (Nat.le_of_ble_eq_true rfl) rfl rfl) (fun u_13 H locs h_13 hP hD hS => ?_)
              have hP : va_P G.1 vwCl [oX h 2 [.ref q1, .ref q2, .ref q3, .int (nI ((adR ((3 * (j - 1)) + k) L (((odS L (1 + 3 * (L - j) + (k - 1))).1), ((odS L (1 + 3 * (L - j) + (k - 1))).2.1), ((odS L (1 + 3 * (L - j) + (k - 1))).2.2.1), ((odS L (1 + 3 * (L - j) + (k - 1))).2.2.2))).1))], aI G q1 64 (nF ((adR ((3 * (j - 1)) + k) L (((odS L (1 + 3 * (L - j) + (k - 1))).1), ((odS L (1 + 3 * (L - j) + (k - 1))).2.1), ((odS L (1 + 3 * (L - j) + (k - 1))).2.2.1), ((odS L (1 + 3 * (L - j) + (k - 1))).2.2.2))).2.1)), aI G q2 64 (nF ((adR ((3 * (j - 1)) + k) L (((odS L (1 + 3 * (L - j) + (k - 1))).1), ((odS L (1 + 3 * (L - j) + (k - 1))).2.1), ((odS L (1 + 3 * (L - j) + (k - 1))).2.2.1), ((odS L (1 + 3 * (L - j) + (k - 1))).2.2.2))).2.2.1)), aI G q3 64 (nF ((adR ((3 * (j - 1)) + k) L (((odS L (1 + 3 * (L - j) + (k - 1))).1), ((odS L (1 + 3 * (L - j) + (k - 1))).2.1), ((odS L (1 + 3 * (L - j) + (k - 1))).2.2.1), ((odS L (1 + 3 * (L - j) + (k - 1))).2.2.2))).2.2.2))] _ := hP
              have hD : va_D A [oX h 2 [.ref q1, .ref q2, .ref q3, .int (nI ((adR ((3 * (j - 1)) + k) L (((odS L (1 + 3 * (L - j) + (k - 1))).1), ((odS L (1 + 3 * (L - j) + (k - 1))).2.1), ((odS L (1 + 3 * (L - j) + (k - 1))).2.2.1), ((odS L (1 + 3 * (L - j) + (k - 1))).2.2.2))).1))], aI G q1 64 (nF ((adR ((3 * (j - 1)) + k) L (((odS L (1 + 3 * (L - j) + (k - 1))).1), ((odS L (1 + 3 * (L - j) + (k - 1))).2.1), ((odS L (1 + 3 * (L - j) + (k - 1))).2.2.1), ((odS L (1 + 3 * (L - j) + (k - 1))).2.2.2))).2.1)), aI G q2 64 (nF ((adR ((3 * (j - 1)) + k) L (((odS L (1 + 3 * (L - j) + (k - 1))).1), ((odS L (1 + 3 * (L - j) + (k - 1))).2.1), ((odS L (1 + 3 * (L - j) + (k - 1))).2.2.1), ((odS L (1 + 3 * (L - j) + (k - 1))).2.2.2))).2.2.1)), aI G q3 64 (nF ((adR ((3 * (j - 1)) + k) L (((odS L (1 + 3 * (L - j) + (k - 1))).1), ((odS L (1 + 3 * (L - j) + (k - 1))).2.1), ((odS L (1 + 3 * (L - j) + (k - 1))).2.2.1), ((odS L (1 + 3 * (L - j) + (k - 1))).2.2.2))).2.2.2))] := hD
              refine N_iinc (a := k) (b := 1) (k9 := 3) (lv' := [(3, .int (nI (k + 1))), (0, .ref h), (1, .int (nI L)), (2, .int (nI j))]) hx hb dX3_init_59 hl rfl rfl (by decide) rfl (fun ls hl => ?_)
              refine lv_goto (tgt := 42) hx hb dX3_init_62 (by decide) ?_
              have e_14 : ((adR ((3 * (j - 1)) + k) L (((odS L (1 + 3 * (L - j) + (k - 1))).1), ((odS L (1 + 3 * (L - j) + (k - 1))).2.1), ((odS L (1 + 3 * (L - j) + (k - 1))).2.2.1), ((odS L (1 + 3 * (L - j) + (k - 1))).2.2.2))).1) = ((odS L (1 + 3 * (L - j) + ((k + 1) - 1))).1) := by exact (congrArg (fun z => z.1) (od_nx (L := L) (n := 1 + 3 * (L - j) + (k - 1)) (n' := 1 + 3 * (L - j) + (k + 1 - 1)) (bq_k (by omega) hj3 hk1 (by omega)) (by omega)))
              rw [e_14] at hP hD
              have e_15 : (nF ((adR ((3 * (j - 1)) + k) L (((odS L (1 + 3 * (L - j) + (k - 1))).1), ((odS L (1 + 3 * (L - j) + (k - 1))).2.1), ((odS L (1 + 3 * (L - j) + (k - 1))).2.2.1), ((odS L (1 + 3 * (L - j) + (k - 1))).2.2.2))).2.1)) = (nF ((odS L (1 + 3 * (L - j) + ((k + 1) - 1))).2.1)) := by exact congrArg (fun z => nF z.2.1) (od_nx (L := L) (n := 1 + 3 * (L - j) + (k - 1)) (n' := 1 + 3 * (L - j) + (k + 1 - 1)) (bq_k (by omega) hj3 hk1 (by omega)) (by omega))
              have hP : va_P G.1 vwCl [oX h 2 [.ref q1, .ref q2, .ref q3, .int (nI ((odS L (1 + 3 * (L - j) + ((k + 1) - 1))).1))], aI G q1 64 (nF ((odS L (1 + 3 * (L - j) + ((k + 1) - 1))).2.1)), aI G q2 64 (nF ((adR ((3 * (j - 1)) + k) L (((odS L (1 + 3 * (L - j) + (k - 1))).1), ((odS L (1 + 3 * (L - j) + (k - 1))).2.1), ((odS L (1 + 3 * (L - j) + (k - 1))).2.2.1), ((odS L (1 + 3 * (L - j) + (k - 1))).2.2.2))).2.2.1)), aI G q3 64 (nF ((adR ((3 * (j - 1)) + k) L (((odS L (1 + 3 * (L - j) + (k - 1))).1), ((odS L (1 + 3 * (L - j) + (k - 1))).2.1), ((odS L (1 + 3 * (L - j) + (k - 1))).2.2.1), ((odS L (1 + 3 * (L - j) + (k - 1))).2.2.2))).2.2.2))] _ := cong_P (q0 := 1) (fun j _ => congrFun e_15 j) rfl rfl hP
              have hD : va_D A [oX h 2 [.ref q1, .ref q2, .ref q3, .int (nI ((odS L (1 + 3 * (L - j) + ((k + 1) - 1))).1))], aI G q1 64 (nF ((odS L (1 + 3 * (L - j) + ((k + 1) - 1))).2.1)), aI G q2 64 (nF ((adR ((3 * (j - 1)) + k) L (((odS L (1 + 3 * (L - j) + (k - 1))).1), ((odS L (1 + 3 * (L - j) + (k - 1))).2.1), ((odS L (1 + 3 * (L - j) + (k - 1))).2.2.1), ((odS L (1 + 3 * (L - j) + (k - 1))).2.2.2))).2.2.1)), aI G q3 64 (nF ((adR ((3 * (j - 1)) + k) L (((odS L (1 + 3 * (L - j) + (k - 1))).1), ((odS L (1 + 3 * (L - j) + (k - 1))).2.1), ((odS L (1 + 3 * (L - j) + (k - 1))).2.2.1), ((odS L (1 + 3 * (L - j) + (k - 1))).2.2.2))).2.2.2))] := cong_D (q0 := 1) rfl rfl hD
              have e_16 : (nF ((adR ((3 * (j - 1)) + k) L (((odS L (1 + 3 * (L - j) + (k - 1))).1), ((odS L (1 + 3 * (L - j) + (k - 1))).2.1), ((odS L (1 + 3 * (L - j) + (k - 1))).2.2.1), ((odS L (1 + 3 * (L - j) + (k - 1))).2.2.2))).2.2.1)) = (nF ((odS L (1 + 3 * (L - j) + ((k + 1) - 1))).2.2.1)) := by exact congrArg (fun z => nF z.2.2.1) (od_nx (L := L) (n := 1 + 3 * (L - j) + (k - 1)) (n' := 1 + 3 * (L - j) + (k + 1 - 1)) (bq_k (by omega) hj3 hk1 (by omega)) (by omega))
              have hP : va_P G.1 vwCl [oX h 2 [.ref q1, .ref q2, .ref q3, .int (nI ((odS L (1 + 3 * (L - j) + ((k + 1) - 1))).1))], aI G q1 64 (nF ((odS L (1 + 3 * (L - j) + ((k + 1) - 1))).2.1)), aI G q2 64 (nF ((odS L (1 + 3 * (L - j) + ((k + 1) - 1))).2.2.1)), aI G q3 64 (nF ((adR ((3 * (j - 1)) + k) L (((odS L (1 + 3 * (L - j) + (k - 1))).1), ((odS L (1 + 3 * (L - j) + (k - 1))).2.1), ((odS L (1 + 3 * (L - j) + (k - 1))).2.2.1), ((odS L (1 + 3 * (L - j) + (k - 1))).2.2.2))).2.2.2))] _ := cong_P (q0 := 2) (fun j _ => congrFun e_16 j) rfl rfl hP
              have hD : va_D A [oX h 2 [.ref q1, .ref q2, .ref q3, .int (nI ((odS L (1 + 3 * (L - j) + ((k + 1) - 1))).1))], aI G q1 64 (nF ((odS L (1 + 3 * (L - j) + ((k + 1) - 1))).2.1)), aI G q2 64 (nF ((odS L (1 + 3 * (L - j) + ((k + 1) - 1))).2.2.1)), aI G q3 64 (nF ((adR ((3 * (j - 1)) + k) L (((odS L (1 + 3 * (L - j) + (k - 1))).1), ((odS L (1 + 3 * (L - j) + (k - 1))).2.1), ((odS L (1 + 3 * (L - j) + (k - 1))).2.2.1), ((odS L (1 + 3 * (L - j) + (k - 1))).2.2.2))).2.2.2))] := cong_D (q0 := 2) rfl rfl hD
              have e_17 : (nF ((adR ((3 * (j - 1)) + k) L (((odS L (1 + 3 * (L - j) + (k - 1))).1), ((odS L (1 + 3 * (L - j) + (k - 1))).2.1), ((odS L (1 + 3 * (L - j) + (k - 1))).2.2.1), ((odS L (1 + 3 * (L - j) + (k - 1))).2.2.2))).2.2.2)) = (nF ((odS L (1 + 3 * (L - j) + ((k + 1) - 1))).2.2.2)) := by exact congrArg (fun z => nF z.2.2.2) (od_nx (L := L) (n := 1 + 3 * (L - j) + (k - 1)) (n' := 1 + 3 * (L - j) + (k + 1 - 1)) (bq_k (by omega) hj3 hk1 (by omega)) (by omega))
              have hP : va_P G.1 vwCl [oX h 2 [.ref q1, .ref q2, .ref q3, .int (nI ((odS L (1 + 3 * (L - j) + ((k + 1) - 1))).1))], aI G q1 64 (nF ((odS L (1 + 3 * (L - j) + ((k + 1) - 1))).2.1)), aI G q2 64 (nF ((odS L (1 + 3 * (L - j) + ((k + 1) - 1))).2.2.1)), aI G q3 64 (nF ((odS L (1 + 3 * (L - j) + ((k + 1) - 1))).2.2.2))] _ := cong_P (q0 := 3) (fun j _ => congrFun e_17 j) rfl rfl hP
              have hD : va_D A [oX h 2 [.ref q1, .ref q2, .ref q3, .int (nI ((odS L (1 + 3 * (L - j) + ((k + 1) - 1))).1))], aI G q1 64 (nF ((odS L (1 + 3 * (L - j) + ((k + 1) - 1))).2.1)), aI G q2 64 (nF ((odS L (1 + 3 * (L - j) + ((k + 1) - 1))).2.2.1)), aI G q3 64 (nF ((odS L (1 + 3 * (L - j) + ((k + 1) - 1))).2.2.2))] := cong_D (q0 := 3) rfl rfl hD
              have hP : va_P G.1 vwCl [oX h 2 [.ref q1, .ref q2, .ref q3, .int (nI ((odS L (1 + 3 * (L - j) + ((k + 1) - 1))).1))], aI G q1 64 (nF ((odS L (1 + 3 * (L - j) + ((k + 1) - 1))).2.1)), aI G q2 64 (nF ((odS L (1 + 3 * (L - j) + ((k + 1) - 1))).2.2.1)), aI G q3 64 (nF ((odS L (1 + 3 * (L - j) + ((k + 1) - 1))).2.2.2))] _ := hP
              have hD : va_D A [oX h 2 [.ref q1, .ref q2, .ref q3, .int (nI ((odS L (1 + 3 * (L - j) + ((k + 1) - 1))).1))], aI G q1 64 (nF ((odS L (1 + 3 * (L - j) + ((k + 1) - 1))).2.1)), aI G q2 64 (nF ((odS L (1 + 3 * (L - j) + ((k + 1) - 1))).2.2.1)), aI G q3 64 (nF ((odS L (1 + 3 * (L - j) + ((k + 1) - 1))).2.2.2))] := hD
              have hl : lv_has ls 4 [(0, .ref h), (1, .int (nI L)), (2, .int (nI j)), (3, .int (nI (k + 1)))] := lv_sub hl [1, 2, 3, 0] rfl
              refine W.widen (k := 3 + 2 * (1 + 3 * (L - j) + ((k + 1) - 1))) (n := 192 + 4 * (1 + 3 * (L - j) + ((k + 1) - 1))) (by first | omega | (simp only [rm_X3_add]; omega)) (by first | omega | (simp only [rm_X3_add]; omega)) ?_
              exact ih_42 (k + 1) (by omega) (by omega) (by omega) _ _ _ hP hD hS hl
        have e_18 : ((odS L (1 + 3 * (L - j))).1) = ((odS L (1 + 3 * (L - j) + (1 - 1))).1) := by exact (congrArg (fun z => z.1) (congrArg (odS L) (show 1 + 3 * (L - j) = 1 + 3 * (L - j) + (1 - 1) by omega)))
        rw [e_18] at hP hD
        have e_19 : (nF ((odS L (1 + 3 * (L - j))).2.1)) = (nF ((odS L (1 + 3 * (L - j) + (1 - 1))).2.1)) := by exact congrArg (fun z => nF z.2.1) (congrArg (odS L) (show 1 + 3 * (L - j) = 1 + 3 * (L - j) + (1 - 1) by omega))
        have hP : va_P G.1 vwCl [oX h 2 [.ref q1, .ref q2, .ref q3, .int (nI ((odS L (1 + 3 * (L - j) + (1 - 1))).1))], aI G q1 64 (nF ((odS L (1 + 3 * (L - j) + (1 - 1))).2.1)), aI G q2 64 (nF ((odS L (1 + 3 * (L - j))).2.2.1)), aI G q3 64 (nF ((odS L (1 + 3 * (L - j))).2.2.2))] _ := cong_P (q0 := 1) (fun j _ => congrFun e_19 j) rfl rfl hP
        have hD : va_D A [oX h 2 [.ref q1, .ref q2, .ref q3, .int (nI ((odS L (1 + 3 * (L - j) + (1 - 1))).1))], aI G q1 64 (nF ((odS L (1 + 3 * (L - j) + (1 - 1))).2.1)), aI G q2 64 (nF ((odS L (1 + 3 * (L - j))).2.2.1)), aI G q3 64 (nF ((odS L (1 + 3 * (L - j))).2.2.2))] := cong_D (q0 := 1) rfl rfl hD
        have e_20 : (nF ((odS L (1 + 3 * (L - j))).2.2.1)) = (nF ((odS L (1 + 3 * (L - j) + (1 - 1))).2.2.1)) := by exact congrArg (fun z => nF z.2.2.1) (congrArg (odS L) (show 1 + 3 * (L - j) = 1 + 3 * (L - j) + (1 - 1) by omega))
        have hP : va_P G.1 vwCl [oX h 2 [.ref q1, .ref q2, .ref q3, .int (nI ((odS L (1 + 3 * (L - j) + (1 - 1))).1))], aI G q1 64 (nF ((odS L (1 + 3 * (L - j) + (1 - 1))).2.1)), aI G q2 64 (nF ((odS L (1 + 3 * (L - j) + (1 - 1))).2.2.1)), aI G q3 64 (nF ((odS L (1 + 3 * (L - j))).2.2.2))] _ := cong_P (q0 := 2) (fun j _ => congrFun e_20 j) rfl rfl hP
        have hD : va_D A [oX h 2 [.ref q1, .ref q2, .ref q3, .int (nI ((odS L (1 + 3 * (L - j) + (1 - 1))).1))], aI G q1 64 (nF ((odS L (1 + 3 * (L - j) + (1 - 1))).2.1)), aI G q2 64 (nF ((odS L (1 + 3 * (L - j) + (1 - 1))).2.2.1)), aI G q3 64 (nF ((odS L (1 + 3 * (L - j))).2.2.2))] := cong_D (q0 := 2) rfl rfl hD
        have e_21 : (nF ((odS L (1 + 3 * (L - j))).2.2.2)) = (nF ((odS L (1 + 3 * (L - j) + (1 - 1))).2.2.2)) := by exact congrArg (fun z => nF z.2.2.2) (congrArg (odS L) (show 1 + 3 * (L - j) = 1 + 3 * (L - j) + (1 - 1) by omega))
        have hP : va_P G.1 vwCl [oX h 2 [.ref q1, .ref q2, .ref q3, .int (nI ((odS L (1 + 3 * (L - j) + (1 - 1))).1))], aI G q1 64 (nF ((odS L (1 + 3 * (L - j) + (1 - 1))).2.1)), aI G q2 64 (nF ((odS L (1 + 3 * (L - j) + (1 - 1))).2.2.1)), aI G q3 64 (nF ((odS L (1 + 3 * (L - j) + (1 - 1))).2.2.2))] _ := cong_P (q0 := 3) (fun j _ => congrFun e_21 j) rfl rfl hP
        have hD : va_D A [oX h 2 [.ref q1, .ref q2, .ref q3, .int (nI ((odS L (1 + 3 * (L - j) + (1 - 1))).1))], aI G q1 64 (nF ((odS L (1 + 3 * (L - j) + (1 - 1))).2.1)), aI G q2 64 (nF ((odS L (1 + 3 * (L - j) + (1 - 1))).2.2.1)), aI G q3 64 (nF ((odS L (1 + 3 * (L - j) + (1 - 1))).2.2.2))] := cong_D (q0 := 3) rfl rfl hD
        have hP : va_P G.1 vwCl [oX h 2 [.ref q1, .ref q2, .ref q3, .int (nI ((odS L (1 + 3 * (L - j) + (1 - 1))).1))], aI G q1 64 (nF ((odS L (1 + 3 * (L - j) + (1 - 1))).2.1)), aI G q2 64 (nF ((odS L (1 + 3 * (L - j) + (1 - 1))).2.2.1)), aI G q3 64 (nF ((odS L (1 + 3 * (L - j) + (1 - 1))).2.2.2))] _ := hP
        have hD : va_D A [oX h 2 [.ref q1, .ref q2, .ref q3, .int (nI ((odS L (1 + 3 * (L - j) + (1 - 1))).1))], aI G q1 64 (nF ((odS L (1 + 3 * (L - j) + (1 - 1))).2.1)), aI G q2 64 (nF ((odS L (1 + 3 * (L - j) + (1 - 1))).2.2.1)), aI G q3 64 (nF ((odS L (1 + 3 * (L - j) + (1 - 1))).2.2.2))] := hD
        have hl : lv_has ls 4 [(0, .ref h), (1, .int (nI L)), (2, .int (nI j)), (3, .int (nI 1))] := lv_sub hl [1, 2, 3, 0] rfl
        refine W.widen (k := 3 + 2 * (1 + 3 * (L - j) + (1 - 1))) (n := 192 + 4 * (1 + 3 * (L - j) + (1 - 1))) (by first | omega | (simp only [rm_X3_add]; omega)) (by first | omega | (simp only [rm_X3_add]; omega)) ?_
        exact lp_42 _ 1 (by omega) (by omega) (Nat.lt_succ_self _) _ _ _ hP hD hS hl
  have e_22 : ((adR 0 L (0, (fun _ => 0), (fun _ => 0), (fun _ => 0))).1) = ((odS L (1 + 3 * (L - L))).1) := by exact (congrArg (fun z => z.1) (od_nx (L := L) (n := 0) rfl (show 1 + 3 * (L - L) = 0 + 1 by omega)))
  rw [e_22] at hP hD
  have e_23 : (nF ((adR 0 L (0, (fun _ => 0), (fun _ => 0), (fun _ => 0))).2.1)) = (nF ((odS L (1 + 3 * (L - L))).2.1)) := by exact congrArg (fun z => nF z.2.1) (od_nx (L := L) (n := 0) rfl (show 1 + 3 * (L - L) = 0 + 1 by omega))
  have hP : va_P G.1 vwCl [oX h 2 [.ref q1, .ref q2, .ref q3, .int (nI ((odS L (1 + 3 * (L - L))).1))], aI G q1 64 (nF ((odS L (1 + 3 * (L - L))).2.1)), aI G q2 64 (nF ((adR 0 L (0, (fun _ => 0), (fun _ => 0), (fun _ => 0))).2.2.1)), aI G q3 64 (nF ((adR 0 L (0, (fun _ => 0), (fun _ => 0), (fun _ => 0))).2.2.2))] _ := cong_P (q0 := 1) (fun j _ => congrFun e_23 j) rfl rfl hP
  have hD : va_D A [oX h 2 [.ref q1, .ref q2, .ref q3, .int (nI ((odS L (1 + 3 * (L - L))).1))], aI G q1 64 (nF ((odS L (1 + 3 * (L - L))).2.1)), aI G q2 64 (nF ((adR 0 L (0, (fun _ => 0), (fun _ => 0), (fun _ => 0))).2.2.1)), aI G q3 64 (nF ((adR 0 L (0, (fun _ => 0), (fun _ => 0), (fun _ => 0))).2.2.2))] := cong_D (q0 := 1) rfl rfl hD
  have e_24 : (nF ((adR 0 L (0, (fun _ => 0), (fun _ => 0), (fun _ => 0))).2.2.1)) = (nF ((odS L (1 + 3 * (L - L))).2.2.1)) := by exact congrArg (fun z => nF z.2.2.1) (od_nx (L := L) (n := 0) rfl (show 1 + 3 * (L - L) = 0 + 1 by omega))
  have hP : va_P G.1 vwCl [oX h 2 [.ref q1, .ref q2, .ref q3, .int (nI ((odS L (1 + 3 * (L - L))).1))], aI G q1 64 (nF ((odS L (1 + 3 * (L - L))).2.1)), aI G q2 64 (nF ((odS L (1 + 3 * (L - L))).2.2.1)), aI G q3 64 (nF ((adR 0 L (0, (fun _ => 0), (fun _ => 0), (fun _ => 0))).2.2.2))] _ := cong_P (q0 := 2) (fun j _ => congrFun e_24 j) rfl rfl hP
  have hD : va_D A [oX h 2 [.ref q1, .ref q2, .ref q3, .int (nI ((odS L (1 + 3 * (L - L))).1))], aI G q1 64 (nF ((odS L (1 + 3 * (L - L))).2.1)), aI G q2 64 (nF ((odS L (1 + 3 * (L - L))).2.2.1)), aI G q3 64 (nF ((adR 0 L (0, (fun _ => 0), (fun _ => 0), (fun _ => 0))).2.2.2))] := cong_D (q0 := 2) rfl rfl hD
  have e_25 : (nF ((adR 0 L (0, (fun _ => 0), (fun _ => 0), (fun _ => 0))).2.2.2)) = (nF ((odS L (1 + 3 * (L - L))).2.2.2)) := by exact congrArg (fun z => nF z.2.2.2) (od_nx (L := L) (n := 0) rfl (show 1 + 3 * (L - L) = 0 + 1 by omega))
  have hP : va_P G.1 vwCl [oX h 2 [.ref q1, .ref q2, .ref q3, .int (nI ((odS L (1 + 3 * (L - L))).1))], aI G q1 64 (nF ((odS L (1 + 3 * (L - L))).2.1)), aI G q2 64 (nF ((odS L (1 + 3 * (L - L))).2.2.1)), aI G q3 64 (nF ((odS L (1 + 3 * (L - L))).2.2.2))] _ := cong_P (q0 := 3) (fun j _ => congrFun e_25 j) rfl rfl hP
  have hD : va_D A [oX h 2 [.ref q1, .ref q2, .ref q3, .int (nI ((odS L (1 + 3 * (L - L))).1))], aI G q1 64 (nF ((odS L (1 + 3 * (L - L))).2.1)), aI G q2 64 (nF ((odS L (1 + 3 * (L - L))).2.2.1)), aI G q3 64 (nF ((odS L (1 + 3 * (L - L))).2.2.2))] := cong_D (q0 := 3) rfl rfl hD
  have hP : va_P G.1 vwCl [oX h 2 [.ref q1, .ref q2, .ref q3, .int (nI ((odS L (1 + 3 * (L - L))).1))], aI G q1 64 (nF ((odS L (1 + 3 * (L - L))).2.1)), aI G q2 64 (nF ((odS L (1 + 3 * (L - L))).2.2.1)), aI G q3 64 (nF ((odS L (1 + 3 * (L - L))).2.2.2))] _ := hP
  have hD : va_D A [oX h 2 [.ref q1, .ref q2, .ref q3, .int (nI ((odS L (1 + 3 * (L - L))).1))], aI G q1 64 (nF ((odS L (1 + 3 * (L - L))).2.1)), aI G q2 64 (nF ((odS L (1 + 3 * (L - L))).2.2.1)), aI G q3 64 (nF ((odS L (1 + 3 * (L - L))).2.2.2))] := hD
  have hl : lv_has ls 4 [(0, .ref h), (1, .int (nI L)), (2, .int (nI L))] := lv_sub hl [1, 2, 0] rfl
  refine W.widen (k := 3 + 2 * (1 + 3 * (L - L))) (n := 192 + 4 * (1 + 3 * (L - L))) (by first | omega | (simp only [rm_X3_add]; omega)) (by first | omega | (simp only [rm_X3_add]; omega)) ?_
  exact lp_36 _ L (by omega) (Nat.lt_succ_self _) _ _ _ hP hD hS hl
