/-! ===== the reference: statics, splitting, joining, the order ===== -/
abbrev oM (h : Nat) (ad : Nat → Nat) (thr sts : Nat) (hs : Bool) (len at_ num many : Nat) : Nat × va_E := oX h 8 [.int (nI thr), .ref (ad 1), .ref (ad 2), .int (nI sts), .ref (ad 3), .int (bI hs), .ref (ad 4), .int (nI len), .ref (ad 5), .ref (ad 6), .ref (ad 7), .ref (ad 8), .ref (ad 9), .ref (ad 10), .int (nI at_), .int (nI num), .int (nI many), .ref (ad 11), .ref (ad 12), .ref (ad 13), .ref (ad 14)]
def isCe (r c : Int32) : Bool := inB r (nI 0) (nI 7) && inB c (nI 0) (nI 7)
def isSh (v : Int32) : Bool := inB v (nI 0) (nI 255)
def sizI (v : Int32) : Int32 := if 0 ≤ v then v else -v
def clampI (v : Int32) : Int32 := if 0 ≤ v then (if v ≤ nI 255 then v else nI 255) else nI 0
def levM (x L : Nat) : Nat := if L < rawLv (x / 8) (x % 8) then L else rawLv (x / 8) (x % 8)
theorem levM_in {x L : Nat} (h : 1 ≤ L) (h3 : L ≤ 3) : 1 ≤ levM x L ∧ levM x L ≤ L := by
  unfold levM rawLv
  repeat' split
  all_goals omega
def offM (x L : Nat) : Nat := (if x % 8 < 8 / 2 ^ levM x L then 0 else 1) + (if x / 8 < 8 / 2 ^ levM x L then 0 else 2)
def bndM (x L : Nat) : Nat := if offM x L = 0 then 0 else 3 * (levM x L - 1) + offM x L
theorem offM_le (x L : Nat) : offM x L ≤ 3 := by
  unfold offM
  split <;> split <;> omega
theorem bndM_le {x L : Nat} (h : 1 ≤ L) (h3 : L ≤ 3) : bndM x L ≤ 9 := by
  have h1 := levM_in (x := x) h h3
  have h2 := offM_le x L
  unfold bndM
  split <;> omega
def rnkM (L x : Nat) : Nat := 64 * (if bndM x L = 0 then 0 else 1 + 3 * (L - levM x L) + (bndM x L - 1) % 3) + x
theorem rnkM_le {x L : Nat} (hx : x < 64) (h3 : L ≤ 3) : rnkM L x < 1000 := by
  unfold rnkM
  split <;> omega
/-- how many below n have it -/
def cntN (p : Nat → Bool) : Nat → Nat
  | 0 => 0
  | k + 1 => cntN p k + (if p k = true then 1 else 0)
theorem cntN_le (p : Nat → Bool) (n : Nat) : cntN p n ≤ n := by
  induction n with
  | zero => exact Nat.le_refl _
  | succ n ih =>
    show cntN p n + _ ≤ _
    split <;> omega
def plL1 : List Nat := [0, 1, 2, 3, 16, 17, 18, 19, 4, 5, 6, 7, 20, 21, 22, 23, 8, 9, 10, 11, 24, 25, 26, 27, 12, 13, 14, 15, 28, 29, 30, 31, 32, 33, 34, 35, 48, 49, 50, 51, 36, 37, 38, 39, 52, 53, 54, 55, 40, 41, 42, 43, 56, 57, 58, 59, 44, 45, 46, 47, 60, 61, 62, 63]
def orL1 : List Nat := [0, 1, 2, 3, 8, 9, 10, 11, 16, 17, 18, 19, 24, 25, 26, 27, 4, 5, 6, 7, 12, 13, 14, 15, 20, 21, 22, 23, 28, 29, 30, 31, 32, 33, 34, 35, 40, 41, 42, 43, 48, 49, 50, 51, 56, 57, 58, 59, 36, 37, 38, 39, 44, 45, 46, 47, 52, 53, 54, 55, 60, 61, 62, 63]
def plL2 : List Nat := [0, 1, 4, 5, 16, 17, 18, 19, 2, 3, 6, 7, 20, 21, 22, 23, 8, 9, 12, 13, 24, 25, 26, 27, 10, 11, 14, 15, 28, 29, 30, 31, 32, 33, 34, 35, 48, 49, 50, 51, 36, 37, 38, 39, 52, 53, 54, 55, 40, 41, 42, 43, 56, 57, 58, 59, 44, 45, 46, 47, 60, 61, 62, 63]
def orL2 : List Nat := [0, 1, 8, 9, 2, 3, 10, 11, 16, 17, 24, 25, 18, 19, 26, 27, 4, 5, 6, 7, 12, 13, 14, 15, 20, 21, 22, 23, 28, 29, 30, 31, 32, 33, 34, 35, 40, 41, 42, 43, 48, 49, 50, 51, 56, 57, 58, 59, 36, 37, 38, 39, 44, 45, 46, 47, 52, 53, 54, 55, 60, 61, 62, 63]
def plL3 : List Nat := [0, 1, 4, 5, 16, 17, 18, 19, 2, 3, 6, 7, 20, 21, 22, 23, 8, 9, 12, 13, 24, 25, 26, 27, 10, 11, 14, 15, 28, 29, 30, 31, 32, 33, 34, 35, 48, 49, 50, 51, 36, 37, 38, 39, 52, 53, 54, 55, 40, 41, 42, 43, 56, 57, 58, 59, 44, 45, 46, 47, 60, 61, 62, 63]
def orL3 : List Nat := [0, 1, 8, 9, 2, 3, 10, 11, 16, 17, 24, 25, 18, 19, 26, 27, 4, 5, 6, 7, 12, 13, 14, 15, 20, 21, 22, 23, 28, 29, 30, 31, 32, 33, 34, 35, 40, 41, 42, 43, 48, 49, 50, 51, 56, 57, 58, 59, 36, 37, 38, 39, 44, 45, 46, 47, 52, 53, 54, 55, 60, 61, 62, 63]
def plT (L x : Nat) : Nat := (if L = 1 then plL1 else if L = 2 then plL2 else plL3).getD x 0
def orT (L j : Nat) : Nat := (if L = 1 then orL1 else if L = 2 then orL2 else orL3).getD j 0
theorem L_cases {L : Nat} (h : 1 ≤ L) (h3 : L ≤ 3) : L = 1 ∨ L = 2 ∨ L = 3 := by omega
theorem pl_or {L : Nat} (h : 1 ≤ L) (h3 : L ≤ 3) : (∀ j, j < 64 → orT L j < 64 ∧ plT L (orT L j) = j) ∧ (∀ x, x < 64 → plT L x < 64 ∧ orT L (plT L x) = x) := by
  rcases L_cases h h3 with rfl | rfl | rfl
  · exact ⟨by decide +kernel, by decide +kernel⟩
  · exact ⟨by decide +kernel, by decide +kernel⟩
  · exact ⟨by decide +kernel, by decide +kernel⟩
/-- how many of the first k come ahead of x -/
def plcK (L x k : Nat) : Nat := cntN (fun k => decide (rnkM L k < rnkM L x)) k
theorem plcK_1 (L x k : Nat) : plcK L x k + (if rnkM L k < rnkM L x then 1 else 0) = plcK L x (k + 1) := by
  show _ = cntN _ k + _
  simp only [decide_eq_true_eq]
  rfl
theorem plcK_le (L x k : Nat) : plcK L x k ≤ k := cntN_le _ _
theorem plc_tab {L : Nat} (h : 1 ≤ L) (h3 : L ≤ 3) : ∀ x, x < 64 → plcK L x 64 = plT L x := by
  rcases L_cases h h3 with rfl | rfl | rfl
  · decide +kernel
  · decide +kernel
  · decide +kernel
/-- the order as it is laid -/
def layI (od : Nat → Int32) (L : Nat) : Nat → Nat → Int32
  | 0 => od
  | k + 1 => upd (layI od L k) (plT L k) (nI k)
theorem layI_at {L : Nat} (h : 1 ≤ L) (h3 : L ≤ 3) (od : Nat → Int32) : ∀ n, n ≤ 64 → ∀ j, j < 64 → orT L j < n → layI od L n j = nI (orT L j) := by
  obtain ⟨p1, p2⟩ := pl_or h h3
  intro n
  induction n with
  | zero => intro _ j _ hj; omega
  | succ n ih =>
    intro hn j hj hjn
    show upd _ _ _ j = _
    by_cases e : j = plT L n
    · have : orT L j = n := by rw [e]; exact (p2 n (by omega)).2
      simp only [upd, e, if_true]
      rw [← e, this]
    · have : orT L j ≠ n := fun z => e (by rw [← z]; exact (p1 j hj).2.symm)
      simp only [upd, e, if_false]
      exact ih (by omega) j hj (by omega)
theorem layI_all {L : Nat} (h : 1 ≤ L) (h3 : L ≤ 3) (od : Nat → Int32) : ∀ j, j < 64 → layI od L 64 j = nF (orT L) j := fun j hj => layI_at h h3 od 64 (Nat.le_refl _) j hj ((pl_or h h3).1 j hj).1
def rm_X9_thrown : Room := ({ frames := 0, cells := 0, slots := 0, locals := 0 } : Room)
set_option maxHeartbeats 400000 in
set_option maxRecDepth 100000 in
theorem t_X9_thrown (l : Launch) (G : GG) (b0 sz : Nat) (h : Nat) (ad : Nat → Nat) (thr sts : Nat) (hs : Bool) (len at_ num many : Nat) : CT l yX9_thrown cX9_thrown 1 (some FieldType.int) (rm_X9_thrown) G b0 [.ref h] [oM h ad thr sts hs len at_ num many] sz (Ri G (fun (r_ : Int32) (_ : Unit) => r_ = nI thr) (fun (_ : Unit) => [oM h ad thr sts hs len at_ num many])) := by
  refine CT.go (by decide) (Nat.le_of_ble_eq_true rfl) (fun p e s m below meth c A ls AR QQ hx hb hr hlk hml hown hnm hts hE hA hAb hsz hP hD hS hl hQQ => ?_)
  have hK := hE.1
  have hown : s.vm.findClass RX9 = some m.cls := hown
  have hl : lv_has ls 1 [(0, .ref h)] := hl
  clear hsz
  refine lv_aload_n hx hb dX9_thrown_0 rfl (lv_at hl 0 rfl) ?_
  refine va_get (D := G.1) (ci := 8) (v := .int (nI thr)) (C := RX9) (T := TX9) (N := 21) hx hb hts in_X9 hown hK hP 0 rfl rfl 0 (by decide) (hts _ q1667) (fun _ h9 => h9) rfl dX9_thrown_1 ?_
  rw [hQQ]
  exact rt_i hx hb hr hlk  (()) dX9_thrown_4 hP hD hS (by first | exact Nat.le_of_ble_eq_true rfl | (simp only [rm_X9_thrown]; omega)) (by first | exact Nat.le_of_ble_eq_true rfl | (simp only [rm_X9_thrown]; omega)) (by rfl)
def rm_X9_fails : Room := ({ frames := 0, cells := 0, slots := 0, locals := 0 } : Room)
set_option maxHeartbeats 400000 in
set_option maxRecDepth 100000 in
theorem t_X9_fails (l : Launch) (G : GG) (b0 sz : Nat) (h : Nat) (ad : Nat → Nat) (thr sts : Nat) (hs : Bool) (len at_ num many : Nat) (cd : Nat) : CT l yX9_fails cX9_fails 2 (some FieldType.int) (rm_X9_fails) G b0 [.ref h, .int (nI cd)] [oM h ad thr sts hs len at_ num many] sz (Ri G (fun (r_ : Int32) (_ : Unit) => r_ = nI 0) (fun (_ : Unit) => [oM h ad cd sts hs len at_ num many])) := by
  refine CT.go (by decide) (Nat.le_of_ble_eq_true rfl) (fun p e s m below meth c A ls AR QQ hx hb hr hlk hml hown hnm hts hE hA hAb hsz hP hD hS hl hQQ => ?_)
  have hK := hE.1
  have hown : s.vm.findClass RX9 = some m.cls := hown
  have hl : lv_has ls 2 [(0, .ref h), (1, .int (nI cd))] := hl
  clear hsz
  refine lv_aload_n hx hb dX9_fails_0 rfl (lv_at hl 0 rfl) ?_
  refine lv_iload_n hx hb dX9_fails_1 rfl (lv_at hl 1 rfl) ?_
  refine va_put (D := G.1) (ci := 8) (v := .int (nI cd)) (ty := .int) (C := RX9) (T := TX9) (N := 21) hx hb hts in_X9 tyX9 tyX9_ok nmX9 hown hK hP hD hS 0 rfl rfl 0 (by decide) (hts _ q1667) (fun _ h9 => h9) rfl (by decide +kernel) rfl rfl (Nat.le_of_ble_eq_true rfl) dX9_fails_2 (fun H locs hP hD hS => ?_)
  have hP : va_P G.1 vwCl [oM h ad cd sts hs len at_ num many] _ := hP
  have hD : va_D A [oM h ad cd sts hs len at_ num many] := hD
  refine lv_iconst (v := nI 0) hx hb dX9_fails_5 (by decide) ?_
  rw [hQQ]
  exact rt_i hx hb hr hlk  (()) dX9_fails_6 hP hD hS (by first | exact Nat.le_of_ble_eq_true rfl | (simp only [rm_X9_fails]; omega)) (by first | exact Nat.le_of_ble_eq_true rfl | (simp only [rm_X9_fails]; omega)) (by rfl)
def rm_X9_within : Room := ({ frames := 0, cells := 0, slots := 0, locals := 0 } : Room)
set_option maxHeartbeats 400000 in
set_option maxRecDepth 100000 in
theorem t_X9_within (l : Launch) (G : GG) (b0 sz : Nat) (v a b : Int32) : CT l yX9_within cX9_within 3 (some FieldType.boolean) (rm_X9_within) G b0 [.int v, .int a, .int b] [] sz (Ri G (fun (r_ : Int32) (_ : Unit) => r_ = bI (inB v a b)) (fun (_ : Unit) => [])) := by
  refine CT.go (by decide) (Nat.le_of_ble_eq_true rfl) (fun p e s m below meth c A ls AR QQ hx hb hr hlk hml hown hnm hts hE hA hAb hsz hP hD hS hl hQQ => ?_)
  have hK := hE.1
  have hown : s.vm.findClass RX9 = some m.cls := hown
  have hl : lv_has ls 3 [(0, .int v), (1, .int a), (2, .int b)] := hl
  clear hsz
  refine lv_iload_n hx hb dX9_within_0 rfl (lv_at hl 0 rfl) ?_
  refine lv_iload_n hx hb dX9_within_1 rfl (lv_at hl 1 rfl) ?_
  refine lv_icmp_lt (tgt := 14) hx hb dX9_within_2 (by decide) (fun c_2 => ?_) (fun c_2 => ?_)
  · skip
    refine lv_iconst (v := nI 0) hx hb dX9_within_14 (by decide) ?_
    rw [hQQ]
    exact rt_z hx hb hr hlk (by first | exact bI_nar _ | rfl) (()) dX9_within_15 hP hD hS (by first | exact Nat.le_of_ble_eq_true rfl | (simp only [rm_X9_within]; omega)) (by first | exact Nat.le_of_ble_eq_true rfl | (simp only [rm_X9_within]; omega)) (by first | exact bI_of1 (by simp [inB, *]) | exact bI_of0 (by simp [inB, *]))
  · skip
    refine lv_iload_n hx hb dX9_within_5 rfl (lv_at hl 0 rfl) ?_
    refine lv_iload_n hx hb dX9_within_6 rfl (lv_at hl 2 rfl) ?_
    refine lv_icmp_gt (tgt := 14) hx hb dX9_within_7 (by decide) (fun c_7 => ?_) (fun c_7 => ?_)
    · skip
      refine lv_iconst (v := nI 0) hx hb dX9_within_14 (by decide) ?_
      rw [hQQ]
      exact rt_z hx hb hr hlk (by first | exact bI_nar _ | rfl) (()) dX9_within_15 hP hD hS (by first | exact Nat.le_of_ble_eq_true rfl | (simp only [rm_X9_within]; omega)) (by first | exact Nat.le_of_ble_eq_true rfl | (simp only [rm_X9_within]; omega)) (by first | exact bI_of1 (by simp [inB, *]) | exact bI_of0 (by simp [inB, *]))
    · skip
      refine lv_iconst (v := nI 1) hx hb dX9_within_10 (by decide) ?_
      refine lv_goto (tgt := 15) hx hb dX9_within_11 (by decide) ?_
      rw [hQQ]
      exact rt_z hx hb hr hlk (by first | exact bI_nar _ | rfl) (()) dX9_within_15 hP hD hS (by first | exact Nat.le_of_ble_eq_true rfl | (simp only [rm_X9_within]; omega)) (by first | exact Nat.le_of_ble_eq_true rfl | (simp only [rm_X9_within]; omega)) (by first | exact bI_of1 (by simp [inB, *]) | exact bI_of0 (by simp [inB, *]))
def rm_X9_isCell : Room := ({ frames := 1, cells := 0, slots := 0, locals := 22 } : Room)
set_option maxHeartbeats 400000 in
set_option maxRecDepth 100000 in
theorem t_X9_isCell (l : Launch) (G : GG) (b0 sz : Nat) (r c_ : Int32) : CT l yX9_isCell cX9_isCell 2 (some FieldType.boolean) (rm_X9_isCell) G b0 [.int r, .int c_] [] sz (Ri G (fun (r_ : Int32) (_ : Unit) => r_ = bI (isCe r c_)) (fun (_ : Unit) => [])) := by
  refine CT.go (by decide) (Nat.le_of_ble_eq_true rfl) (fun p e s m below meth c A ls AR QQ hx hb hr hlk hml hown hnm hts hE hA hAb hsz hP hD hS hl hQQ => ?_)
  have hK := hE.1
  have hown : s.vm.findClass RX9 = some m.cls := hown
  have hl : lv_has ls 2 [(0, .int r), (1, .int c_)] := hl
  clear hsz
  refine lv_iload_n hx hb dX9_isCell_0 rfl (lv_at hl 0 rfl) ?_
  refine lv_iconst (v := nI 0) hx hb dX9_isCell_1 (by decide) ?_
  refine lv_bipush (v := nI 7) hx hb dX9_isCell_2 (by decide) ?_
  refine fin_i (ws' := (fun (_ : Unit) => [])) hA hS hP hD [] rfl [] (fun _ => rfl) (by decide) (run_S (As := [.int r, .int (nI 0), .int (nI 7)]) (rest := []) (n9 := 3) hx hb hml hown hts hE hAb hl.1 hS hP hD [] rfl (by decide) (t_X9_within l G b0 _ r (nI 0) (nI 7) ) (lw_S q1770 q1771 q129 q1772) ⟨by decide, by decide, by decide +kernel⟩ ⟨Nat.le_of_ble_eq_true rfl, Nat.le_of_ble_eq_true rfl⟩ ⟨by first | exact Nat.le_of_ble_eq_true rfl | (simp only [rm_X9_isCell, rm_X9_within]; omega), by first | exact Nat.le_of_ble_eq_true rfl | (simp only [rm_X9_isCell, rm_X9_within]; omega)⟩ dX9_isCell_4 (Nat.le_of_ble_eq_true rfl) rfl rfl) (fun r_1 u_1 H locs h_1 hP hD hS => ?_)
  have hP : va_P G.1 vwCl [] _ := hP
  have hD : va_D A [] := hD
  have h_1 : r_1 = bI (inB r (nI 0) (nI 7)) := h_1
  rw [h_1]
  refine B_if_eq (tgt := 24) hx hb dX9_isCell_7 (by decide) (fun c_7 => ?_) (fun c_7 => ?_)
  · skip
    refine lv_iconst (v := nI 0) hx hb dX9_isCell_24 (by decide) ?_
    rw [hQQ]
    exact rt_z hx hb hr hlk (by first | exact bI_nar _ | rfl) (()) dX9_isCell_25 hP hD hS (by first | exact Nat.le_of_ble_eq_true rfl | (simp only [rm_X9_isCell]; omega)) (by first | exact Nat.le_of_ble_eq_true rfl | (simp only [rm_X9_isCell]; omega)) (by first | exact bI_of1 (by simp [isCe, *]) | exact bI_of0 (by simp [isCe, *]))
  · skip
    refine lv_iload_n hx hb dX9_isCell_10 rfl (lv_at hl 1 rfl) ?_
    refine lv_iconst (v := nI 0) hx hb dX9_isCell_11 (by decide) ?_
    refine lv_bipush (v := nI 7) hx hb dX9_isCell_12 (by decide) ?_
    refine fin_i (ws' := (fun (_ : Unit) => [])) hA hS hP hD [] rfl [] (fun _ => rfl) (by decide) (run_S (As := [.int c_, .int (nI 0), .int (nI 7)]) (rest := []) (n9 := 3) hx hb hml hown hts hE hAb hl.1 hS hP hD [] rfl (by decide) (t_X9_within l G b0 _ c_ (nI 0) (nI 7) ) (lw_S q1770 q1771 q129 q1772) ⟨by decide, by decide, by decide +kernel⟩ ⟨Nat.le_of_ble_eq_true rfl, Nat.le_of_ble_eq_true rfl⟩ ⟨by first | exact Nat.le_of_ble_eq_true rfl | (simp only [rm_X9_isCell, rm_X9_within]; omega), by first | exact Nat.le_of_ble_eq_true rfl | (simp only [rm_X9_isCell, rm_X9_within]; omega)⟩ dX9_isCell_14 (Nat.le_of_ble_eq_true rfl) rfl rfl) (fun r_2 u_2 H locs h_2 hP hD hS => ?_)
    have hP : va_P G.1 vwCl [] _ := hP
    have hD : va_D A [] := hD
    have h_2 : r_2 = bI (inB c_ (nI 0) (nI 7)) := h_2
    rw [h_2]
    refine B_if_eq (tgt := 24) hx hb dX9_isCell_17 (by decide) (fun c_17 => ?_) (fun c_17 => ?_)
    · skip
      refine lv_iconst (v := nI 0) hx hb dX9_isCell_24 (by decide) ?_
      rw [hQQ]
      exact rt_z hx hb hr hlk (by first | exact bI_nar _ | rfl) (()) dX9_isCell_25 hP hD hS (by first | exact Nat.le_of_ble_eq_true rfl | (simp only [rm_X9_isCell]; omega)) (by first | exact Nat.le_of_ble_eq_true rfl | (simp only [rm_X9_isCell]; omega)) (by first | exact bI_of1 (by simp [isCe, *]) | exact bI_of0 (by simp [isCe, *]))
    · skip
      refine lv_iconst (v := nI 1) hx hb dX9_isCell_20 (by decide) ?_
      refine lv_goto (tgt := 25) hx hb dX9_isCell_21 (by decide) ?_
      rw [hQQ]
      exact rt_z hx hb hr hlk (by first | exact bI_nar _ | rfl) (()) dX9_isCell_25 hP hD hS (by first | exact Nat.le_of_ble_eq_true rfl | (simp only [rm_X9_isCell]; omega)) (by first | exact Nat.le_of_ble_eq_true rfl | (simp only [rm_X9_isCell]; omega)) (by first | exact bI_of1 (by simp [isCe, *]) | exact bI_of0 (by simp [isCe, *]))
def rm_X9_isShade : Room := ({ frames := 1, cells := 0, slots := 0, locals := 22 } : Room)
set_option maxHeartbeats 400000 in
set_option maxRecDepth 100000 in
theorem t_X9_isShade (l : Launch) (G : GG) (b0 sz : Nat) (v : Int32) : CT l yX9_isShade cX9_isShade 1 (some FieldType.boolean) (rm_X9_isShade) G b0 [.int v] [] sz (Ri G (fun (r_ : Int32) (_ : Unit) => r_ = bI (isSh v)) (fun (_ : Unit) => [])) := by
  refine CT.go (by decide) (Nat.le_of_ble_eq_true rfl) (fun p e s m below meth c A ls AR QQ hx hb hr hlk hml hown hnm hts hE hA hAb hsz hP hD hS hl hQQ => ?_)
  have hK := hE.1
  have hown : s.vm.findClass RX9 = some m.cls := hown
  have hl : lv_has ls 1 [(0, .int v)] := hl
  clear hsz
  refine lv_iload_n hx hb dX9_isShade_0 rfl (lv_at hl 0 rfl) ?_
  refine lv_iconst (v := nI 0) hx hb dX9_isShade_1 (by decide) ?_
  refine lv_sipush (v := nI 255) hx hb dX9_isShade_2 (by decide) ?_
  refine fin_i (ws' := (fun (_ : Unit) => [])) hA hS hP hD [] rfl [] (fun _ => rfl) (by decide) (run_S (As := [.int v, .int (nI 0), .int (nI 255)]) (rest := []) (n9 := 3) hx hb hml hown hts hE hAb hl.1 hS hP hD [] rfl (by decide) (t_X9_within l G b0 _ v (nI 0) (nI 255) ) (lw_S q1770 q1771 q129 q1772) ⟨by decide, by decide, by decide +kernel⟩ ⟨Nat.le_of_ble_eq_true rfl, Nat.le_of_ble_eq_true rfl⟩ ⟨by first | exact Nat.le_of_ble_eq_true rfl | (simp only [rm_X9_isShade, rm_X9_within]; omega), by first | exact Nat.le_of_ble_eq_true rfl | (simp only [rm_X9_isShade, rm_X9_within]; omega)⟩ dX9_isShade_5 (Nat.le_of_ble_eq_true rfl) rfl rfl) (fun r_1 u_1 H locs h_1 hP hD hS => ?_)
  have hP : va_P G.1 vwCl [] _ := hP
  have hD : va_D A [] := hD
  have h_1 : r_1 = bI (inB v (nI 0) (nI 255)) := h_1
  rw [h_1]
  rw [hQQ]
  exact rt_z hx hb hr hlk (by first | exact bI_nar _ | rfl) (()) dX9_isShade_8 hP hD hS (by first | exact Nat.le_of_ble_eq_true rfl | (simp only [rm_X9_isShade]; omega)) (by first | exact Nat.le_of_ble_eq_true rfl | (simp only [rm_X9_isShade]; omega)) (by rfl)
def rm_X9_size : Room := ({ frames := 0, cells := 0, slots := 0, locals := 0 } : Room)
set_option maxHeartbeats 400000 in
set_option maxRecDepth 100000 in
theorem t_X9_size (l : Launch) (G : GG) (b0 sz : Nat) (v : Int32) : CT l yX9_size cX9_size 1 (some FieldType.int) (rm_X9_size) G b0 [.int v] [] sz (Ri G (fun (r_ : Int32) (_ : Unit) => r_ = sizI v) (fun (_ : Unit) => [])) := by
  refine CT.go (by decide) (Nat.le_of_ble_eq_true rfl) (fun p e s m below meth c A ls AR QQ hx hb hr hlk hml hown hnm hts hE hA hAb hsz hP hD hS hl hQQ => ?_)
  have hK := hE.1
  have hown : s.vm.findClass RX9 = some m.cls := hown
  have hl : lv_has ls 1 [(0, .int v)] := hl
  clear hsz
  refine lv_iload_n hx hb dX9_size_0 rfl (lv_at hl 0 rfl) ?_
  refine lv_if_ge (tgt := 9) hx hb dX9_size_1 (by decide) (fun c_1 => ?_) (fun c_1 => ?_)
  · skip
    refine lv_iload_n hx hb dX9_size_9 rfl (lv_at hl 0 rfl) ?_
    rw [hQQ]
    exact rt_i hx hb hr hlk  (()) dX9_size_10 hP hD hS (by first | exact Nat.le_of_ble_eq_true rfl | (simp only [rm_X9_size]; omega)) (by first | exact Nat.le_of_ble_eq_true rfl | (simp only [rm_X9_size]; omega)) (by simp only [sizI, *, if_true, if_false])
  · skip
    refine lv_iload_n hx hb dX9_size_4 rfl (lv_at hl 0 rfl) ?_
    refine lv_ineg hx hb dX9_size_5 ?_
    refine lv_goto (tgt := 10) hx hb dX9_size_6 (by decide) ?_
    rw [hQQ]
    exact rt_i hx hb hr hlk  (()) dX9_size_10 hP hD hS (by first | exact Nat.le_of_ble_eq_true rfl | (simp only [rm_X9_size]; omega)) (by first | exact Nat.le_of_ble_eq_true rfl | (simp only [rm_X9_size]; omega)) (by simp only [sizI, *, if_true, if_false])
def rm_X9_clamped : Room := ({ frames := 0, cells := 0, slots := 0, locals := 0 } : Room)
set_option maxHeartbeats 400000 in
set_option maxRecDepth 100000 in
theorem t_X9_clamped (l : Launch) (G : GG) (b0 sz : Nat) (v : Int32) : CT l yX9_clamped cX9_clamped 1 (some FieldType.int) (rm_X9_clamped) G b0 [.int v] [] sz (Ri G (fun (r_ : Int32) (_ : Unit) => r_ = clampI v) (fun (_ : Unit) => [])) := by
  refine CT.go (by decide) (Nat.le_of_ble_eq_true rfl) (fun p e s m below meth c A ls AR QQ hx hb hr hlk hml hown hnm hts hE hA hAb hsz hP hD hS hl hQQ => ?_)
  have hK := hE.1
  have hown : s.vm.findClass RX9 = some m.cls := hown
  have hl : lv_has ls 1 [(0, .int v)] := hl
  clear hsz
  refine lv_iload_n hx hb dX9_clamped_0 rfl (lv_at hl 0 rfl) ?_
  refine lv_if_ge (tgt := 8) hx hb dX9_clamped_1 (by decide) (fun c_1 => ?_) (fun c_1 => ?_)
  · skip
    refine lv_iload_n hx hb dX9_clamped_8 rfl (lv_at hl 0 rfl) ?_
    refine lv_sipush (v := nI 255) hx hb dX9_clamped_9 (by decide) ?_
    refine lv_icmp_le (tgt := 21) hx hb dX9_clamped_12 (by decide) (fun c_12 => ?_) (fun c_12 => ?_)
    · skip
      refine lv_iload_n hx hb dX9_clamped_21 rfl (lv_at hl 0 rfl) ?_
      rw [hQQ]
      exact rt_i hx hb hr hlk  (()) dX9_clamped_22 hP hD hS (by first | exact Nat.le_of_ble_eq_true rfl | (simp only [rm_X9_clamped]; omega)) (by first | exact Nat.le_of_ble_eq_true rfl | (simp only [rm_X9_clamped]; omega)) (by simp only [clampI, *, if_true, if_false])
    · skip
      refine lv_sipush (v := nI 255) hx hb dX9_clamped_15 (by decide) ?_
      refine lv_goto (tgt := 22) hx hb dX9_clamped_18 (by decide) ?_
      rw [hQQ]
      exact rt_i hx hb hr hlk  (()) dX9_clamped_22 hP hD hS (by first | exact Nat.le_of_ble_eq_true rfl | (simp only [rm_X9_clamped]; omega)) (by first | exact Nat.le_of_ble_eq_true rfl | (simp only [rm_X9_clamped]; omega)) (by simp only [clampI, *, if_true, if_false])
  · skip
    refine lv_iconst (v := nI 0) hx hb dX9_clamped_4 (by decide) ?_
    refine lv_goto (tgt := 22) hx hb dX9_clamped_5 (by decide) ?_
    rw [hQQ]
    exact rt_i hx hb hr hlk  (()) dX9_clamped_22 hP hD hS (by first | exact Nat.le_of_ble_eq_true rfl | (simp only [rm_X9_clamped]; omega)) (by first | exact Nat.le_of_ble_eq_true rfl | (simp only [rm_X9_clamped]; omega)) (by simp only [clampI, *, if_true, if_false])
def rm_X9_sumOfShades : Room := ({ frames := 0, cells := 0, slots := 0, locals := 0 } : Room)
set_option maxHeartbeats 400000 in
set_option maxRecDepth 100000 in
theorem t_X9_sumOfShades (l : Launch) (G : GG) (b0 sz : Nat) (h : Nat) (ad : Nat → Nat) (thr sts : Nat) (hs : Bool) (len at_ num many : Nat) (st : Nat → Int32) : CT l yX9_sumOfShades cX9_sumOfShades 3 (some FieldType.int) (rm_X9_sumOfShades) G b0 [.ref h] [oM h ad thr sts hs len at_ num many, aI G (ad 1) 68 st] sz (Ri G (fun (r_ : Int32) (_ : Unit) => r_ = l_sum st 64) (fun (_ : Unit) => [oM h ad thr sts hs len at_ num many, aI G (ad 1) 68 st])) := by
  refine CT.go (by decide) (Nat.le_of_ble_eq_true rfl) (fun p e s m below meth c A ls AR QQ hx hb hr hlk hml hown hnm hts hE hA hAb hsz hP hD hS hl hQQ => ?_)
  have hK := hE.1
  have hown : s.vm.findClass RX9 = some m.cls := hown
  have hl : lv_has ls 3 [(0, .ref h)] := hl
  clear hsz
  refine lv_iconst (v := nI 0) hx hb dX9_sumOfShades_0 (by decide) ?_
  refine lv_istore_n (lv' := [(1, .int (nI 0)), (0, .ref h)]) hx hb dX9_sumOfShades_1 rfl hl (by decide) rfl (fun ls hl => ?_)
  refine lv_iconst (v := nI 0) hx hb dX9_sumOfShades_2 (by decide) ?_
  refine lv_istore_n (lv' := [(2, .int (nI 0)), (1, .int (nI 0)), (0, .ref h)]) hx hb dX9_sumOfShades_3 rfl hl (by decide) rfl (fun ls hl => ?_)
  have lp_4 : ∀ (n_4 : Nat) (k : Nat), (k ≤ 64) → (64 - k) < n_4 → ∀ (H : Heap) (locs : List Loc) (ls : Array Slot), va_P G.1 vwCl [oM h ad thr sts hs len at_ num many, aI G (ad 1) 68 st] H → va_D A [oM h ad thr sts hs len at_ num many, aI G (ad 1) 68 st] → va_S A s.heap H locs → lv_has ls 3 [(0, .ref h), (1, .int (l_sum st k)), (2, .int (nI k))] → W p l e (rm_X9_sumOfShades) s m AR below meth c H locs 0 0 QQ (F0 m 4 ls []) := by
    intro n_4
    induction n_4 with
    | zero => intro k hk hn_; exact absurd hn_ (Nat.not_lt_zero _)
    | succ n_4 ih_4 =>
      intro k hk hn_4 H locs ls hP hD hS hl
      refine lv_iload_n hx hb dX9_sumOfShades_4 rfl (lv_at hl 2 rfl) ?_
      refine lv_bipush (v := nI 64) hx hb dX9_sumOfShades_5 (by decide) ?_
      refine N_icmp_ge (tgt := 25) hx hb dX9_sumOfShades_7 (by decide) (by omega) (by omega) (fun c_7 => ?_) (fun c_7 => ?_)
      · skip
        obtain rfl : k = 64 := by omega
        refine lv_iload_n hx hb dX9_sumOfShades_25 rfl (lv_at hl 1 rfl) ?_
        rw [hQQ]
        exact rt_i hx hb hr hlk  (()) dX9_sumOfShades_26 hP hD hS (by first | exact Nat.le_of_ble_eq_true rfl | (simp only [rm_X9_sumOfShades]; omega)) (by first | exact Nat.le_of_ble_eq_true rfl | (simp only [rm_X9_sumOfShades]; omega)) (by rfl)
      · skip
        refine lv_iload_n hx hb dX9_sumOfShades_10 rfl (lv_at hl 1 rfl) ?_
        refine lv_aload_n hx hb dX9_sumOfShades_11 rfl (lv_at hl 0 rfl) ?_
        refine va_get (D := G.1) (ci := 8) (v := .ref (ad 1)) (C := RX9) (T := TX9) (N := 21) hx hb hts in_X9 hown hK hP 0 rfl rfl 1 (by decide) (hts _ q1668) (fun _ h9 => h9) rfl dX9_sumOfShades_12 ?_
        refine lv_iload_n hx hb dX9_sumOfShades_15 rfl (lv_at hl 2 rfl) ?_
        refine N_iald hx hb dX9_sumOfShades_16 hK hP 1 0 rfl rfl (by omega) (by omega) ?_
        refine lv_iadd hx hb dX9_sumOfShades_17 ?_
        refine lv_istore_n (lv' := [(1, .int ((l_sum st k) + (st k))), (0, .ref h), (2, .int (nI k))]) hx hb dX9_sumOfShades_18 rfl hl (by decide) rfl (fun ls hl => ?_)
        refine N_iinc (a := k) (b := 1) (k9 := 2) (lv' := [(2, .int (nI (k + 1))), (1, .int ((l_sum st k) + (st k))), (0, .ref h)]) hx hb dX9_sumOfShades_19 hl rfl rfl (by decide) rfl (fun ls hl => ?_)
        refine lv_goto (tgt := 4) hx hb dX9_sumOfShades_22 (by decide) ?_
        have hl : lv_has ls 3 [(0, .ref h), (1, .int ((l_sum st k) + (st k))), (2, .int (nI (k + 1)))] := lv_sub hl [2, 1, 0] rfl
        have e_1 : (l_sum st k) + (st k) = l_sum st (k + 1) := by rfl
        rw [e_1] at hl
        have hl : lv_has ls 3 [(0, .ref h), (1, .int (l_sum st (k + 1))), (2, .int (nI (k + 1)))] := hl
        exact ih_4 (k + 1) (by omega) (by omega) _ _ _ hP hD hS hl
  have hl : lv_has ls 3 [(0, .ref h), (1, .int (nI 0)), (2, .int (nI 0))] := lv_sub hl [2, 1, 0] rfl
  have e_2 : nI 0 = l_sum st 0 := by rfl
  rw [e_2] at hl
  have hl : lv_has ls 3 [(0, .ref h), (1, .int (l_sum st 0)), (2, .int (nI 0))] := hl
  exact lp_4 _ 0 (by omega) (Nat.lt_succ_self _) _ _ _ hP hD hS hl
def rm_X9_levelOf : Room := ({ frames := 0, cells := 0, slots := 0, locals := 0 } : Room)
set_option maxHeartbeats 400000 in
set_option maxRecDepth 100000 in
theorem t_X9_levelOf (l : Launch) (G : GG) (b0 sz : Nat) (x L : Nat) (hxx : x < 64) (hL1 : 1 ≤ L) (hL : L ≤ 3) : CT l yX9_levelOf cX9_levelOf 4 (some FieldType.int) (rm_X9_levelOf) G b0 [.int (nI x), .int (nI L)] [] sz (Ri G (fun (r_ : Int32) (_ : Unit) => r_ = nI (levM x L)) (fun (_ : Unit) => [])) := by
  refine CT.go (by decide) (Nat.le_of_ble_eq_true rfl) (fun p e s m below meth c A ls AR QQ hx hb hr hlk hml hown hnm hts hE hA hAb hsz hP hD hS hl hQQ => ?_)
  have hK := hE.1
  have hown : s.vm.findClass RX9 = some m.cls := hown
  have hl : lv_has ls 4 [(0, .int (nI x)), (1, .int (nI L))] := hl
  clear hsz
  refine lv_iload_n hx hb dX9_levelOf_0 rfl (lv_at hl 0 rfl) ?_
  refine lv_bipush (v := nI 8) hx hb dX9_levelOf_1 (by decide) ?_
  refine N_idiv hx hb dX9_levelOf_3 (by omega) (by omega) (by omega) ?_
  refine lv_iload_n hx hb dX9_levelOf_4 rfl (lv_at hl 0 rfl) ?_
  refine lv_bipush (v := nI 8) hx hb dX9_levelOf_5 (by decide) ?_
  refine N_irem hx hb dX9_levelOf_7 (by omega) (by omega) (by omega) ?_
  have K_8 : ∀ (v_1 : Nat) (_ : v_1 = if (x % 8) < (x / 8) then (x / 8) else (x % 8)) (H : Heap) (locs : List Loc) (ls : Array Slot), va_P G.1 vwCl [] H → va_D A [] → va_S A s.heap H locs → lv_has ls 4 [(0, .int (nI x)), (1, .int (nI L))] → W p l e (rm_X9_levelOf) s m AR below meth c H locs 0 0 QQ (F0 m 22 ls [.int (nI v_1)]) := by
    intro v_1 e_v_1 H locs ls hP hD hS hl
    subst e_v_1
    refine lv_istore_n (lv' := [(2, .int (nI (if (x % 8) < (x / 8) then (x / 8) else (x % 8)))), (0, .int (nI x)), (1, .int (nI L))]) hx hb dX9_levelOf_22 rfl hl (by decide) rfl (fun ls hl => ?_)
    refine lv_iconst (v := nI 1) hx hb dX9_levelOf_23 (by decide) ?_
    refine lv_istore_n (lv' := [(3, .int (nI 1)), (2, .int (nI (if (x % 8) < (x / 8) then (x / 8) else (x % 8)))), (0, .int (nI x)), (1, .int (nI L))]) hx hb dX9_levelOf_24 rfl hl (by decide) rfl (fun ls hl => ?_)
    have lp_25 : ∀ (n_25 : Nat) (i fa : Nat), (1 ≤ i ∧ i ≤ L) → ((x % 8 < x / 8 ∧ fa = x / 8) ∨ (x / 8 ≤ x % 8 ∧ fa = x % 8)) → (i ≤ rawLv (x / 8) (x % 8)) → (L - i) < n_25 → ∀ (H : Heap) (locs : List Loc) (ls : Array Slot), va_P G.1 vwCl [] H → va_D A [] → va_S A s.heap H locs → lv_has ls 4 [(0, .int (nI x)), (1, .int (nI L)), (2, .int (nI fa)), (3, .int (nI i))] → W p l e (rm_X9_levelOf) s m AR below meth c H locs 0 0 QQ (F0 m 25 ls []) := by
      intro n_25
      induction n_25 with
      | zero => intro i fa hi hfa hra hn_; exact absurd hn_ (Nat.not_lt_zero _)
      | succ n_25 ih_25 =>
        intro i fa hi hfa hra hn_25 H locs ls hP hD hS hl
        have hdv : 8 / 2 ^ i ≤ 8 := Nat.div_le_self _ _
        refine lv_iload_n hx hb dX9_levelOf_25 rfl (lv_at hl 3 rfl) ?_
        refine lv_iload_n hx hb dX9_levelOf_26 rfl (lv_at hl 1 rfl) ?_
        refine N_icmp_ge (tgt := 44) hx hb dX9_levelOf_27 (by decide) (by omega) (by omega) (fun c_27 => ?_) (fun c_27 => ?_)
        · skip
          refine lv_iload_n hx hb dX9_levelOf_44 rfl (lv_at hl 3 rfl) ?_
          rw [hQQ]
          exact rt_i hx hb hr hlk  (()) dX9_levelOf_45 hP hD hS (by first | exact Nat.le_of_ble_eq_true rfl | (simp only [rm_X9_levelOf]; omega)) (by first | exact Nat.le_of_ble_eq_true rfl | (simp only [rm_X9_levelOf]; omega)) (by congr 1; have h12 : i = 1 ∨ i = 2 ∨ i = 3 := (by omega); rcases h12 with rfl | rfl | rfl <;> unfold levM rawLv <;> (repeat' split) <;> first | omega | (unfold rawLv at hra; (repeat' split at hra) <;> omega))
        · skip
          refine lv_iload_n hx hb dX9_levelOf_30 rfl (lv_at hl 2 rfl) ?_
          refine lv_bipush (v := nI 8) hx hb dX9_levelOf_31 (by decide) ?_
          refine lv_iload_n hx hb dX9_levelOf_33 rfl (lv_at hl 3 rfl) ?_
          refine N_ishr hx hb dX9_levelOf_34 (by omega) (by omega) ?_
          refine N_icmp_ge (tgt := 44) hx hb dX9_levelOf_35 (by decide) (by omega) (by omega) (fun c_35 => ?_) (fun c_35 => ?_)
          · skip
            refine lv_iload_n hx hb dX9_levelOf_44 rfl (lv_at hl 3 rfl) ?_
            rw [hQQ]
            exact rt_i hx hb hr hlk  (()) dX9_levelOf_45 hP hD hS (by first | exact Nat.le_of_ble_eq_true rfl | (simp only [rm_X9_levelOf]; omega)) (by first | exact Nat.le_of_ble_eq_true rfl | (simp only [rm_X9_levelOf]; omega)) (by congr 1; have h12 : i = 1 ∨ i = 2 ∨ i = 3 := (by omega); rcases h12 with rfl | rfl | rfl <;> unfold levM rawLv <;> (repeat' split) <;> first | omega | (unfold rawLv at hra; (repeat' split at hra) <;> omega))
          · skip
            refine N_iinc (a := i) (b := 1) (k9 := 3) (lv' := [(3, .int (nI (i + 1))), (0, .int (nI x)), (1, .int (nI L)), (2, .int (nI fa))]) hx hb dX9_levelOf_38 hl rfl rfl (by decide) rfl (fun ls hl => ?_)
            refine lv_goto (tgt := 25) hx hb dX9_levelOf_41 (by decide) ?_
            have hl : lv_has ls 4 [(0, .int (nI x)), (1, .int (nI L)), (2, .int (nI fa)), (3, .int (nI (i + 1)))] := lv_sub hl [1, 2, 3, 0] rfl
            exact ih_25 (i + 1) fa (by omega) (by omega) (by have h12 : i = 1 ∨ i = 2 := (by omega); rcases h12 with rfl | rfl <;> unfold rawLv <;> (repeat' split) <;> omega) (by omega) _ _ _ hP hD hS hl
    have hl : lv_has ls 4 [(0, .int (nI x)), (1, .int (nI L)), (2, .int (nI (if (x % 8) < (x / 8) then (x / 8) else (x % 8)))), (3, .int (nI 1))] := lv_sub hl [2, 3, 1, 0] rfl
    exact lp_25 _ 1 (if (x % 8) < (x / 8) then (x / 8) else (x % 8)) (by omega) (by split <;> omega) (by unfold rawLv; (repeat' split) <;> omega) (Nat.lt_succ_self _) _ _ _ hP hD hS hl
  refine N_icmp_le (tgt := 18) hx hb dX9_levelOf_8 (by decide) (by omega) (by omega) (fun c_8 => ?_) (fun c_8 => ?_)
  · skip
    refine lv_iload_n hx hb dX9_levelOf_18 rfl (lv_at hl 0 rfl) ?_
    refine lv_bipush (v := nI 8) hx hb dX9_levelOf_19 (by decide) ?_
    refine N_irem hx hb dX9_levelOf_21 (by omega) (by omega) (by omega) ?_
    exact K_8 (x % 8) (by first | rfl | (try rw [if_neg (Nat.not_lt.mpr c_8)]) | simp_all) _ _ _ hP hD hS (lv_sub hl [0, 1] rfl)
  · skip
    refine lv_iload_n hx hb dX9_levelOf_11 rfl (lv_at hl 0 rfl) ?_
    refine lv_bipush (v := nI 8) hx hb dX9_levelOf_12 (by decide) ?_
    refine N_idiv hx hb dX9_levelOf_14 (by omega) (by omega) (by omega) ?_
    refine lv_goto (tgt := 22) hx hb dX9_levelOf_15 (by decide) ?_
    exact K_8 (x / 8) (by first | rfl | (try rw [if_pos c_8]) | simp_all) _ _ _ hP hD hS (lv_sub hl [0, 1] rfl)
