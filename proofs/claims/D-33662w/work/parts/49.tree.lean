/-! ===== trees: from above and from below ===== -/
theorem absI_siz (x : Int32) : absI x = sizI x := by
  unfold absI sizI
  split
  · rfl
  · exact Int32.zero_sub x
def chC (x k : Nat) : Nat := 8 * (2 * (x / 8) + k / 2) + 2 * (x % 8) + k % 2
/-- the first k children, too -/
def trK (f : Nat → Bool) (b : Bool) (x : Nat) : Nat → Bool
  | 0 => b
  | k + 1 => if trK f b x k = true then f (chC x k) else false
/-- a tree of n + 1 levels stands at x -/
def trU (t : Int32) (pa : Nat → Int32) : Nat → Nat → Bool
  | 0, x => nearB t (pa x)
  | n + 1, x => trK (trU t pa n) (nearB t (pa x)) x 4
theorem trK_f {f : Nat → Bool} {b : Bool} {x k : Nat} (h : trK f b x k = false) : ∀ d, trK f b x (k + d) = false := by
  intro d
  induction d with
  | zero => exact h
  | succ d ih =>
    show (if trK f b x (k + d) = true then _ else false) = false
    rw [ih]
    rfl
theorem trK_x {f : Nat → Bool} {b : Bool} {x k : Nat} (h : trK f b x k = false) (hk : k ≤ 4) : false = trK f b x 4 := by
  have := trK_f h (4 - k)
  rw [show k + (4 - k) = 4 by omega] at this
  exact this.symm
/-- cells of the first k children -/
def cnK (g : Nat → Nat) (x : Nat) : Nat → Nat
  | 0 => 0
  | k + 1 => cnK g x k + g (chC x k)
def cnU (t : Int32) (pa : Nat → Int32) : Nat → Nat → Nat
  | 0, x => if trU t pa 0 x = true then 1 else 0
  | n + 1, x => if trU t pa (n + 1) x = true then 1 else cnK (cnU t pa n) x 4
theorem cnU_le {t : Int32} {pa : Nat → Int32} : ∀ (n x : Nat), cnU t pa n x ≤ 4 ^ n := by
  intro n
  induction n with
  | zero => intro x; unfold cnU; split <;> decide
  | succ n ih =>
    intro x
    unfold cnU
    have h0 : 1 ≤ 4 ^ n := Nat.pos_of_ne_zero (by intro h; have := Nat.pow_eq_zero.mp h; omega)
    have h1 : (4 : Nat) ^ (n + 1) = 4 ^ n * 4 := Nat.pow_succ _ _
    split
    · omega
    · have a0 := ih (chC x 0)
      have a1 := ih (chC x 1)
      have a2 := ih (chC x 2)
      have a3 := ih (chC x 3)
      show 0 + cnU t pa n (chC x 0) + cnU t pa n (chC x 1) + cnU t pa n (chC x 2) + cnU t pa n (chC x 3) ≤ _
      omega
theorem trK_e {t : Int32} {pa : Nat → Int32} {n x k : Nat} (h : k = 4) : trK (trU t pa n) (nearB t (pa x)) x k = trU t pa (n + 1) x := by
  subst h
  rfl
theorem cnK_e {t : Int32} {pa : Nat → Int32} {n x k : Nat} (h : k = 4) (c : trU t pa (n + 1) x = false) : cnK (cnU t pa n) x k = cnU t pa (n + 1) x := by
  subst h
  show _ = (if _ then _ else _)
  rw [if_neg (by rw [c]; decide)]
def rm_X7_of : Room := ({ frames := 0, cells := 0, slots := 0, locals := 0 } : Room)
set_option maxHeartbeats 400000 in
set_option maxRecDepth 100000 in
theorem t_X7_of (l : Launch) (G : GG) (b0 sz : Nat) (h sm pr L0 L : Nat) (pq : Option Nat) (t0 t : Int32) : CT l yX7_of cX7_of 4 (some (FieldType.object "CrumbPictures$Trees")) (rm_X7_of) G b0 [.ref h, .ref pr, .int (nI L), .int t] [oX h 6 [.ref sm, va_rf pq, .int (nI L0), .int t0]] sz (Rr G (fun (_ : Unit) => True) (fun (_ : Unit) => h) (fun (_ : Unit) => [oX h 6 [.ref sm, .ref pr, .int (nI L), .int t]])) := by
  refine CT.go (by decide) (Nat.le_of_ble_eq_true rfl) (fun p e s m below meth c A ls AR QQ hx hb hr hlk hml hown hnm hts hE hA hAb hsz hP hD hS hl hQQ => ?_)
  have hK := hE.1
  have hown : s.vm.findClass RX7 = some m.cls := hown
  have hl : lv_has ls 4 [(0, .ref h), (1, .ref pr), (2, .int (nI L)), (3, .int t)] := hl
  clear hsz
  refine lv_aload_n hx hb dX7_of_0 rfl (lv_at hl 0 rfl) ?_
  refine lv_aload_n hx hb dX7_of_1 rfl (lv_at hl 1 rfl) ?_
  refine va_put (D := G.1) (ci := 6) (v := .ref pr) (ty := (.array .int)) (C := RX7) (T := TX7) (N := 4) hx hb hts in_X7 tyX7 tyX7_ok nmX7 hown hK hP hD hS 0 rfl rfl 1 (by decide) (hts _ q377) (fun _ h9 => h9) rfl (by decide +kernel) rfl rfl (Nat.le_of_ble_eq_true rfl) dX7_of_2 (fun H locs hP hD hS => ?_)
  have hP : va_P G.1 vwCl [oX h 6 [.ref sm, .ref pr, .int (nI L0), .int t0]] _ := hP
  have hD : va_D A [oX h 6 [.ref sm, .ref pr, .int (nI L0), .int t0]] := hD
  refine lv_aload_n hx hb dX7_of_5 rfl (lv_at hl 0 rfl) ?_
  refine lv_iload_n hx hb dX7_of_6 rfl (lv_at hl 2 rfl) ?_
  refine va_put (D := G.1) (ci := 6) (v := .int (nI L)) (ty := .int) (C := RX7) (T := TX7) (N := 4) hx hb hts in_X7 tyX7 tyX7_ok nmX7 hown hK hP hD hS 0 rfl rfl 2 (by decide) (hts _ q378) (fun _ h9 => h9) rfl (by decide +kernel) rfl rfl (Nat.le_of_ble_eq_true rfl) dX7_of_7 (fun H locs hP hD hS => ?_)
  have hP : va_P G.1 vwCl [oX h 6 [.ref sm, .ref pr, .int (nI L), .int t0]] _ := hP
  have hD : va_D A [oX h 6 [.ref sm, .ref pr, .int (nI L), .int t0]] := hD
  refine lv_aload_n hx hb dX7_of_10 rfl (lv_at hl 0 rfl) ?_
  refine lv_iload_n hx hb dX7_of_11 rfl (lv_at hl 3 rfl) ?_
  refine va_put (D := G.1) (ci := 6) (v := .int t) (ty := .int) (C := RX7) (T := TX7) (N := 4) hx hb hts in_X7 tyX7 tyX7_ok nmX7 hown hK hP hD hS 0 rfl rfl 3 (by decide) (hts _ q379) (fun _ h9 => h9) rfl (by decide +kernel) rfl rfl (Nat.le_of_ble_eq_true rfl) dX7_of_12 (fun H locs hP hD hS => ?_)
  have hP : va_P G.1 vwCl [oX h 6 [.ref sm, .ref pr, .int (nI L), .int t]] _ := hP
  have hD : va_D A [oX h 6 [.ref sm, .ref pr, .int (nI L), .int t]] := hD
  refine lv_aload_n hx hb dX7_of_15 rfl (lv_at hl 0 rfl) ?_
  rw [hQQ]
  exact rt_r hx hb hr hlk (by first | exact Or.inl ⟨_, rfl⟩ | exact Or.inr ⟨_, rfl⟩) (()) dX7_of_16 hP hD hS (by first | exact Nat.le_of_ble_eq_true rfl | (simp only [rm_X7_of]; omega)) (by first | exact Nat.le_of_ble_eq_true rfl | (simp only [rm_X7_of]; omega)) (by rfl) trivial
def rm_X7_isNear : Room := ({ frames := 1, cells := 0, slots := 0, locals := 20 } : Room)
set_option maxHeartbeats 400000 in
set_option maxRecDepth 100000 in
theorem t_X7_isNear (l : Launch) (G : GG) (b0 sz : Nat) (h sm pr L : Nat) (t : Int32) (x : Nat) (pa : Nat → Int32) (hxx : x < 64) : CT l yX7_isNear cX7_isNear 2 (some FieldType.boolean) (rm_X7_isNear) G b0 [.ref h, .int (nI x)] [oX h 6 [.ref sm, .ref pr, .int (nI L), .int t], aI G pr 64 pa] sz (Ri G (fun (r_ : Int32) (_ : Unit) => r_ = bI (nearB t (pa x))) (fun (_ : Unit) => [oX h 6 [.ref sm, .ref pr, .int (nI L), .int t], aI G pr 64 pa])) := by
  refine CT.go (by decide) (Nat.le_of_ble_eq_true rfl) (fun p e s m below meth c A ls AR QQ hx hb hr hlk hml hown hnm hts hE hA hAb hsz hP hD hS hl hQQ => ?_)
  have hK := hE.1
  have hown : s.vm.findClass RX7 = some m.cls := hown
  have hl : lv_has ls 2 [(0, .ref h), (1, .int (nI x))] := hl
  clear hsz
  refine lv_aload_n hx hb dX7_isNear_0 rfl (lv_at hl 0 rfl) ?_
  refine va_get (D := G.1) (ci := 6) (v := .ref pr) (C := RX7) (T := TX7) (N := 4) hx hb hts in_X7 hown hK hP 0 rfl rfl 1 (by decide) (hts _ q377) (fun _ h9 => h9) rfl dX7_isNear_1 ?_
  refine lv_iload_n hx hb dX7_isNear_4 rfl (lv_at hl 1 rfl) ?_
  refine N_iald hx hb dX7_isNear_5 hK hP 1 0 rfl rfl (by omega) (by omega) ?_
  refine M_abs hx hb (hml.trans hl.1.symm) hown hts q1282 q1169 q137 q1170 (Nat.le_of_ble_eq_true rfl) (Nat.le_of_ble_eq_true rfl) (by first | exact Nat.le_of_ble_eq_true rfl | omega) (by first | exact Nat.le_of_ble_eq_true rfl | omega) dX7_isNear_6 ?_
  refine lv_aload_n hx hb dX7_isNear_9 rfl (lv_at hl 0 rfl) ?_
  refine va_get (D := G.1) (ci := 6) (v := .int t) (C := RX7) (T := TX7) (N := 4) hx hb hts in_X7 hown hK hP 0 rfl rfl 3 (by decide) (hts _ q379) (fun _ h9 => h9) rfl dX7_isNear_10 ?_
  refine lv_icmp_gt (tgt := 20) hx hb dX7_isNear_13 (by decide) (fun c_13 => ?_) (fun c_13 => ?_)
  · skip
    refine lv_iconst (v := nI 0) hx hb dX7_isNear_20 (by decide) ?_
    rw [hQQ]
    exact rt_z hx hb hr hlk (by first | exact bI_nar _ | rfl) (()) dX7_isNear_21 hP hD hS (by first | exact Nat.le_of_ble_eq_true rfl | (simp only [rm_X7_isNear]; omega)) (by first | exact Nat.le_of_ble_eq_true rfl | (simp only [rm_X7_isNear]; omega)) (by first | exact bI_of1 (by unfold nearB; rw [← absI_siz, if_neg (by assumption)]) | exact bI_of0 (by unfold nearB; rw [← absI_siz, if_pos (by assumption)]))
  · skip
    refine lv_iconst (v := nI 1) hx hb dX7_isNear_16 (by decide) ?_
    refine lv_goto (tgt := 21) hx hb dX7_isNear_17 (by decide) ?_
    rw [hQQ]
    exact rt_z hx hb hr hlk (by first | exact bI_nar _ | rfl) (()) dX7_isNear_21 hP hD hS (by first | exact Nat.le_of_ble_eq_true rfl | (simp only [rm_X7_isNear]; omega)) (by first | exact Nat.le_of_ble_eq_true rfl | (simp only [rm_X7_isNear]; omega)) (by first | exact bI_of1 (by unfold nearB; rw [← absI_siz, if_neg (by assumption)]) | exact bI_of0 (by unfold nearB; rw [← absI_siz, if_pos (by assumption)]))
def rm_X7_child : Room := ({ frames := 0, cells := 0, slots := 0, locals := 0 } : Room)
set_option maxHeartbeats 400000 in
set_option maxRecDepth 100000 in
theorem t_X7_child (l : Launch) (G : GG) (b0 sz : Nat) (x k : Nat) (hxx : x < 64) (hk : k < 4) : CT l yX7_child cX7_child 2 (some FieldType.int) (rm_X7_child) G b0 [.int (nI x), .int (nI k)] [] sz (Ri G (fun (r_ : Int32) (_ : Unit) => r_ = nI (chC x k)) (fun (_ : Unit) => [])) := by
  refine CT.go (by decide) (Nat.le_of_ble_eq_true rfl) (fun p e s m below meth c A ls AR QQ hx hb hr hlk hml hown hnm hts hE hA hAb hsz hP hD hS hl hQQ => ?_)
  have hK := hE.1
  have hown : s.vm.findClass RX7 = some m.cls := hown
  have hl : lv_has ls 2 [(0, .int (nI x)), (1, .int (nI k))] := hl
  clear hsz
  refine lv_bipush (v := nI 8) hx hb dX7_child_0 (by decide) ?_
  refine lv_iconst (v := nI 2) hx hb dX7_child_2 (by decide) ?_
  refine lv_iload_n hx hb dX7_child_3 rfl (lv_at hl 0 rfl) ?_
  refine lv_bipush (v := nI 8) hx hb dX7_child_4 (by decide) ?_
  refine N_idiv hx hb dX7_child_6 (by omega) (by omega) (by omega) ?_
  refine N_imul hx hb dX7_child_7 ?_
  refine lv_iload_n hx hb dX7_child_8 rfl (lv_at hl 1 rfl) ?_
  refine lv_iconst (v := nI 2) hx hb dX7_child_9 (by decide) ?_
  refine N_idiv hx hb dX7_child_10 (by omega) (by omega) (by omega) ?_
  refine N_iadd hx hb dX7_child_11 ?_
  refine N_imul hx hb dX7_child_12 ?_
  refine lv_iconst (v := nI 2) hx hb dX7_child_13 (by decide) ?_
  refine lv_iload_n hx hb dX7_child_14 rfl (lv_at hl 0 rfl) ?_
  refine lv_bipush (v := nI 8) hx hb dX7_child_15 (by decide) ?_
  refine N_irem hx hb dX7_child_17 (by omega) (by omega) (by omega) ?_
  refine N_imul hx hb dX7_child_18 ?_
  refine N_iadd hx hb dX7_child_19 ?_
  refine lv_iload_n hx hb dX7_child_20 rfl (lv_at hl 1 rfl) ?_
  refine lv_iconst (v := nI 2) hx hb dX7_child_21 (by decide) ?_
  refine N_irem hx hb dX7_child_22 (by omega) (by omega) (by omega) ?_
  refine N_iadd hx hb dX7_child_23 ?_
  rw [hQQ]
  exact rt_i hx hb hr hlk  (()) dX7_child_24 hP hD hS (by first | exact Nat.le_of_ble_eq_true rfl | (simp only [rm_X7_child]; omega)) (by first | exact Nat.le_of_ble_eq_true rfl | (simp only [rm_X7_child]; omega)) (by rfl)
def rm_X7_isTree_1 : Room := ({ frames := 3, cells := 0, slots := 0, locals := 60 } : Room)
set_option maxHeartbeats 400000 in
set_option maxRecDepth 100000 in
theorem t_X7_isTree_1 (l : Launch) (G : GG) (b0 sz : Nat) (h sm pr L : Nat) (t : Int32) (x : Nat) (pa : Nat → Int32) (hxx : x < 64) (hr8 : x / 8 * 1 < 8) (hc8 : x % 8 * 1 < 8) : CT l yX7_isTree cX7_isTree 5 (some FieldType.boolean) (rm_X7_isTree_1) G b0 [.ref h, .int (nI x), .int (nI 1)] [oX h 6 [.ref sm, .ref pr, .int (nI L), .int t], aI G pr 64 pa] sz (Ri G (fun (r_ : Int32) (_ : Unit) => r_ = bI (trU t pa 0 x)) (fun (_ : Unit) => [oX h 6 [.ref sm, .ref pr, .int (nI L), .int t], aI G pr 64 pa])) := by
  refine CT.go (by decide) (Nat.le_of_ble_eq_true rfl) (fun p e s m below meth c A ls AR QQ hx hb hr hlk hml hown hnm hts hE hA hAb hsz hP hD hS hl hQQ => ?_)
  have hK := hE.1
  have hown : s.vm.findClass RX7 = some m.cls := hown
  have hl : lv_has ls 5 [(0, .ref h), (1, .int (nI x)), (2, .int (nI 1))] := hl
  clear hsz
  refine lv_aload_n hx hb dX7_isTree_0 rfl (lv_at hl 0 rfl) ?_
  refine lv_iload_n hx hb dX7_isTree_1 rfl (lv_at hl 1 rfl) ?_
  refine fin_i (ws' := (fun (_ : Unit) => [oX h 6 [.ref sm, .ref pr, .int (nI L), .int t], aI G pr 64 pa])) hA hS hP hD [0, 1] rfl [(true, 0), (true, 1)] (fun _ => rfl) (by decide) (run_V (As := [.int (nI x)]) (rest := []) (n9 := 1) hx hb hml hown hts hE hAb hl.1 hS hP hD [0, 1] rfl (by decide) (t_X7_isNear l G b0 _ h sm pr L t x pa (by omega)) (lw_V q1278 q1280 qs46 q119 q1281) 0 rfl rfl ⟨rfl, by decide, by decide, by decide +kernel⟩ ⟨Nat.le_of_ble_eq_true rfl, Nat.le_of_ble_eq_true rfl⟩ ⟨by first | exact Nat.le_of_ble_eq_true rfl | (simp only [rm_X7_isTree_1, rm_X7_isNear]; omega), by first | exact Nat.le_of_ble_eq_true rfl | (simp only [rm_X7_isTree_1, rm_X7_isNear]; omega)⟩ dX7_isTree_2 (Nat.le_of_ble_eq_true rfl) rfl rfl) (fun r_1 u_1 H locs h_1 hP hD hS => ?_)
  have hP : va_P G.1 vwCl [oX h 6 [.ref sm, .ref pr, .int (nI L), .int t], aI G pr 64 pa] _ := hP
  have hD : va_D A [oX h 6 [.ref sm, .ref pr, .int (nI L), .int t], aI G pr 64 pa] := hD
  have h_1 : r_1 = (bI (nearB t (pa x))) := h_1
  rw [h_1]
  refine lv_istore_n (lv' := [(3, .int (bI (nearB t (pa x)))), (0, .ref h), (1, .int (nI x)), (2, .int (nI 1))]) hx hb dX7_isTree_5 rfl hl (by decide) rfl (fun ls hl => ?_)
  refine lv_iconst (v := nI 0) hx hb dX7_isTree_6 (by decide) ?_
  refine lv_istore (lv' := [(4, .int (nI 0)), (3, .int (bI (nearB t (pa x)))), (0, .ref h), (1, .int (nI x)), (2, .int (nI 1))]) hx hb dX7_isTree_7 hl (by decide) rfl (fun ls hl => ?_)
  have lp_9 : ∀ (n_9 : Nat) (k : Nat), (k ≤ 4) → (4 - k) < n_9 → ∀ (H : Heap) (locs : List Loc) (ls : Array Slot), va_P G.1 vwCl [oX h 6 [.ref sm, .ref pr, .int (nI L), .int t], aI G pr 64 pa] H → va_D A [oX h 6 [.ref sm, .ref pr, .int (nI L), .int t], aI G pr 64 pa] → va_S A s.heap H locs → lv_has ls 5 [(0, .ref h), (1, .int (nI x)), (2, .int (nI 1)), (3, .int (bI (nearB t (pa x)))), (4, .int (nI k))] → W p l e (rm_X7_isTree_1) s m AR below meth c H locs 0 0 QQ (F0 m 9 ls []) := by
    intro n_9
    induction n_9 with
    | zero => intro k hk hn_; exact absurd hn_ (Nat.not_lt_zero _)
    | succ n_9 ih_9 =>
      intro k hk hn_9 H locs ls hP hD hS hl
      refine lv_iload hx hb dX7_isTree_9 (lv_at hl 4 rfl) ?_
      refine lv_iconst (v := nI 4) hx hb dX7_isTree_11 (by decide) ?_
      refine N_icmp_ge (tgt := 44) hx hb dX7_isTree_12 (by decide) (by omega) (by omega) (fun c_12 => ?_) (fun c_12 => ?_)
      · skip
        refine lv_iload_n hx hb dX7_isTree_44 rfl (lv_at hl 3 rfl) ?_
        rw [hQQ]
        exact rt_z hx hb hr hlk (by first | exact bI_nar _ | rfl) (()) dX7_isTree_45 hP hD hS (by first | exact Nat.le_of_ble_eq_true rfl | (simp only [rm_X7_isTree_1]; omega)) (by first | exact Nat.le_of_ble_eq_true rfl | (simp only [rm_X7_isTree_1]; omega)) (by rfl)
      · skip
        refine lv_iload_n hx hb dX7_isTree_15 rfl (lv_at hl 3 rfl) ?_
        refine B_if_eq (tgt := 44) hx hb dX7_isTree_16 (by decide) (fun c_16 => ?_) (fun c_16 => ?_)
        · skip
          refine lv_iload_n hx hb dX7_isTree_44 rfl (lv_at hl 3 rfl) ?_
          rw [hQQ]
          exact rt_z hx hb hr hlk (by first | exact bI_nar _ | rfl) (()) dX7_isTree_45 hP hD hS (by first | exact Nat.le_of_ble_eq_true rfl | (simp only [rm_X7_isTree_1]; omega)) (by first | exact Nat.le_of_ble_eq_true rfl | (simp only [rm_X7_isTree_1]; omega)) (by rfl)
        · skip
          refine lv_iload_n hx hb dX7_isTree_19 rfl (lv_at hl 2 rfl) ?_
          refine lv_iconst (v := nI 1) hx hb dX7_isTree_20 (by decide) ?_
          refine N_icmp_le (tgt := 44) hx hb dX7_isTree_21 (by decide) (by omega) (by omega) (fun c_21 => ?_) (fun c_21 => ?_)
          · skip
            refine lv_iload_n hx hb dX7_isTree_44 rfl (lv_at hl 3 rfl) ?_
            rw [hQQ]
            exact rt_z hx hb hr hlk (by first | exact bI_nar _ | rfl) (()) dX7_isTree_45 hP hD hS (by first | exact Nat.le_of_ble_eq_true rfl | (simp only [rm_X7_isTree_1]; omega)) (by first | exact Nat.le_of_ble_eq_true rfl | (simp only [rm_X7_isTree_1]; omega)) (by rfl)
          · skip
            exfalso; omega
  have hl : lv_has ls 5 [(0, .ref h), (1, .int (nI x)), (2, .int (nI 1)), (3, .int (bI (nearB t (pa x)))), (4, .int (nI 0))] := lv_sub hl [2, 3, 4, 1, 0] rfl
  exact lp_9 _ 0 (by omega) (Nat.lt_succ_self _) _ _ _ hP hD hS hl
def rm_X7_isTree_2 : Room := ({ frames := 4, cells := 0, slots := 0, locals := 90 } : Room)
set_option maxHeartbeats 400000 in
set_option maxRecDepth 100000 in
theorem t_X7_isTree_2 (l : Launch) (G : GG) (b0 sz : Nat) (h sm pr L : Nat) (t : Int32) (x : Nat) (pa : Nat → Int32) (hxx : x < 64) (hr8 : x / 8 * 2 < 8) (hc8 : x % 8 * 2 < 8) : CT l yX7_isTree cX7_isTree 5 (some FieldType.boolean) (rm_X7_isTree_2) G b0 [.ref h, .int (nI x), .int (nI 2)] [oX h 6 [.ref sm, .ref pr, .int (nI L), .int t], aI G pr 64 pa] sz (Ri G (fun (r_ : Int32) (_ : Unit) => r_ = bI (trU t pa 1 x)) (fun (_ : Unit) => [oX h 6 [.ref sm, .ref pr, .int (nI L), .int t], aI G pr 64 pa])) := by
  refine CT.go (by decide) (Nat.le_of_ble_eq_true rfl) (fun p e s m below meth c A ls AR QQ hx hb hr hlk hml hown hnm hts hE hA hAb hsz hP hD hS hl hQQ => ?_)
  have hK := hE.1
  have hown : s.vm.findClass RX7 = some m.cls := hown
  have hl : lv_has ls 5 [(0, .ref h), (1, .int (nI x)), (2, .int (nI 2))] := hl
  clear hsz
  refine lv_aload_n hx hb dX7_isTree_0 rfl (lv_at hl 0 rfl) ?_
  refine lv_iload_n hx hb dX7_isTree_1 rfl (lv_at hl 1 rfl) ?_
  refine fin_i (ws' := (fun (_ : Unit) => [oX h 6 [.ref sm, .ref pr, .int (nI L), .int t], aI G pr 64 pa])) hA hS hP hD [0, 1] rfl [(true, 0), (true, 1)] (fun _ => rfl) (by decide) (run_V (As := [.int (nI x)]) (rest := []) (n9 := 1) hx hb hml hown hts hE hAb hl.1 hS hP hD [0, 1] rfl (by decide) (t_X7_isNear l G b0 _ h sm pr L t x pa (by omega)) (lw_V q1278 q1280 qs46 q119 q1281) 0 rfl rfl ⟨rfl, by decide, by decide, by decide +kernel⟩ ⟨Nat.le_of_ble_eq_true rfl, Nat.le_of_ble_eq_true rfl⟩ ⟨by first | exact Nat.le_of_ble_eq_true rfl | (simp only [rm_X7_isTree_2, rm_X7_isNear]; omega), by first | exact Nat.le_of_ble_eq_true rfl | (simp only [rm_X7_isTree_2, rm_X7_isNear]; omega)⟩ dX7_isTree_2 (Nat.le_of_ble_eq_true rfl) rfl rfl) (fun r_1 u_1 H locs h_1 hP hD hS => ?_)
  have hP : va_P G.1 vwCl [oX h 6 [.ref sm, .ref pr, .int (nI L), .int t], aI G pr 64 pa] _ := hP
  have hD : va_D A [oX h 6 [.ref sm, .ref pr, .int (nI L), .int t], aI G pr 64 pa] := hD
  have h_1 : r_1 = (bI (nearB t (pa x))) := h_1
  rw [h_1]
  refine lv_istore_n (lv' := [(3, .int (bI (nearB t (pa x)))), (0, .ref h), (1, .int (nI x)), (2, .int (nI 2))]) hx hb dX7_isTree_5 rfl hl (by decide) rfl (fun ls hl => ?_)
  refine lv_iconst (v := nI 0) hx hb dX7_isTree_6 (by decide) ?_
  refine lv_istore (lv' := [(4, .int (nI 0)), (3, .int (bI (nearB t (pa x)))), (0, .ref h), (1, .int (nI x)), (2, .int (nI 2))]) hx hb dX7_isTree_7 hl (by decide) rfl (fun ls hl => ?_)
  have lp_9 : ∀ (n_9 : Nat) (k : Nat), (k ≤ 4) → (4 - k) < n_9 → ∀ (H : Heap) (locs : List Loc) (ls : Array Slot), va_P G.1 vwCl [oX h 6 [.ref sm, .ref pr, .int (nI L), .int t], aI G pr 64 pa] H → va_D A [oX h 6 [.ref sm, .ref pr, .int (nI L), .int t], aI G pr 64 pa] → va_S A s.heap H locs → lv_has ls 5 [(0, .ref h), (1, .int (nI x)), (2, .int (nI 2)), (3, .int (bI (trK (trU t pa 0) (nearB t (pa x)) x k))), (4, .int (nI k))] → W p l e (rm_X7_isTree_2) s m AR below meth c H locs 0 0 QQ (F0 m 9 ls []) := by
    intro n_9
    induction n_9 with
    | zero => intro k hk hn_; exact absurd hn_ (Nat.not_lt_zero _)
    | succ n_9 ih_9 =>
      intro k hk hn_9 H locs ls hP hD hS hl
      refine lv_iload hx hb dX7_isTree_9 (lv_at hl 4 rfl) ?_
      refine lv_iconst (v := nI 4) hx hb dX7_isTree_11 (by decide) ?_
      refine N_icmp_ge (tgt := 44) hx hb dX7_isTree_12 (by decide) (by omega) (by omega) (fun c_12 => ?_) (fun c_12 => ?_)
      · skip
        refine lv_iload_n hx hb dX7_isTree_44 rfl (lv_at hl 3 rfl) ?_
        rw [hQQ]
        exact rt_z hx hb hr hlk (by first | exact bI_nar _ | rfl) (()) dX7_isTree_45 hP hD hS (by first | exact Nat.le_of_ble_eq_true rfl | (simp only [rm_X7_isTree_2]; omega)) (by first | exact Nat.le_of_ble_eq_true rfl | (simp only [rm_X7_isTree_2]; omega)) (by first | exact congrArg bI (trK_e (by omega)) | (rw [c_16]; exact congrArg bI (trK_x c_16 hk)))
      · skip
        refine lv_iload_n hx hb dX7_isTree_15 rfl (lv_at hl 3 rfl) ?_
        refine B_if_eq (tgt := 44) hx hb dX7_isTree_16 (by decide) (fun c_16 => ?_) (fun c_16 => ?_)
        · skip
          refine lv_iload_n hx hb dX7_isTree_44 rfl (lv_at hl 3 rfl) ?_
          rw [hQQ]
          exact rt_z hx hb hr hlk (by first | exact bI_nar _ | rfl) (()) dX7_isTree_45 hP hD hS (by first | exact Nat.le_of_ble_eq_true rfl | (simp only [rm_X7_isTree_2]; omega)) (by first | exact Nat.le_of_ble_eq_true rfl | (simp only [rm_X7_isTree_2]; omega)) (by first | exact congrArg bI (trK_e (by omega)) | (rw [c_16]; exact congrArg bI (trK_x c_16 hk)))
        · skip
          refine lv_iload_n hx hb dX7_isTree_19 rfl (lv_at hl 2 rfl) ?_
          refine lv_iconst (v := nI 1) hx hb dX7_isTree_20 (by decide) ?_
          refine N_icmp_le (tgt := 44) hx hb dX7_isTree_21 (by decide) (by omega) (by omega) (fun c_21 => ?_) (fun c_21 => ?_)
          · skip
            exfalso; omega
          · skip
            refine lv_aload_n hx hb dX7_isTree_24 rfl (lv_at hl 0 rfl) ?_
            refine lv_iload_n hx hb dX7_isTree_25 rfl (lv_at hl 1 rfl) ?_
            refine lv_iload hx hb dX7_isTree_26 (lv_at hl 4 rfl) ?_
            refine fin_i (ws' := (fun (_ : Unit) => [oX h 6 [.ref sm, .ref pr, .int (nI L), .int t], aI G pr 64 pa])) hA hS hP hD [] rfl [(false, 0), (false, 1)] (fun _ => rfl) (by decide) (run_S (As := [.int (nI x), .int (nI k)]) (rest := [.ref h]) (n9 := 2) hx hb hml hown hts hE hAb hl.1 hS hP hD [] rfl (by decide) (t_X7_child l G b0 _ x k (by omega) (by omega)) (lw_S q1283 q1284 q119 q1285) ⟨by decide, by decide, by decide +kernel⟩ ⟨Nat.le_of_ble_eq_true rfl, Nat.le_of_ble_eq_true rfl⟩ ⟨by first | exact Nat.le_of_ble_eq_true rfl | (simp only [rm_X7_isTree_2, rm_X7_child]; omega), by first | exact Nat.le_of_ble_eq_true rfl | (simp only [rm_X7_isTree_2, rm_X7_child]; omega)⟩ dX7_isTree_28 (Nat.le_of_ble_eq_true rfl) rfl rfl) (fun r_2 u_2 H locs h_2 hP hD hS => ?_)
            have hP : va_P G.1 vwCl [oX h 6 [.ref sm, .ref pr, .int (nI L), .int t], aI G pr 64 pa] _ := hP
            have hD : va_D A [oX h 6 [.ref sm, .ref pr, .int (nI L), .int t], aI G pr 64 pa] := hD
            have h_2 : r_2 = (nI (chC x k)) := h_2
            rw [h_2]
            have hch : chC x k < 64 ∧ chC x k / 8 * 1 < 8 ∧ chC x k % 8 * 1 < 8 := by unfold chC; omega
            refine lv_iload_n hx hb dX7_isTree_31 rfl (lv_at hl 2 rfl) ?_
            refine lv_iconst (v := nI 1) hx hb dX7_isTree_32 (by decide) ?_
            refine N_isub hx hb dX7_isTree_33 (by omega) ?_
            refine fin_i (ws' := (fun (_ : Unit) => [oX h 6 [.ref sm, .ref pr, .int (nI L), .int t], aI G pr 64 pa])) hA hS hP hD [0, 1] rfl [(true, 0), (true, 1)] (fun _ => rfl) (by decide) (run_V (As := [.int (nI (chC x k)), .int (nI 1)]) (rest := []) (n9 := 2) hx hb hml hown hts hE hAb hl.1 hS hP hD [0, 1] rfl (by decide) (t_X7_isTree_1 l G b0 _ h sm pr L t (chC x k) pa (by omega) (by omega) (by omega)) (lw_V q1274 q1275 q1276 q119 q1277) 0 rfl rfl ⟨rfl, by decide, by decide, by decide +kernel⟩ ⟨Nat.le_of_ble_eq_true rfl, Nat.le_of_ble_eq_true rfl⟩ ⟨by first | exact Nat.le_of_ble_eq_true rfl | (simp only [rm_X7_isTree_2, rm_X7_isTree_1]; omega), by first | exact Nat.le_of_ble_eq_true rfl | (simp only [rm_X7_isTree_2, rm_X7_isTree_1]; omega)⟩ dX7_isTree_34 (Nat.le_of_ble_eq_true rfl) rfl rfl) (fun r_3 u_3 H locs h_3 hP hD hS => ?_)
            have hP : va_P G.1 vwCl [oX h 6 [.ref sm, .ref pr, .int (nI L), .int t], aI G pr 64 pa] _ := hP
            have hD : va_D A [oX h 6 [.ref sm, .ref pr, .int (nI L), .int t], aI G pr 64 pa] := hD
            have h_3 : r_3 = (bI (trU t pa 0 (chC x k))) := h_3
            rw [h_3]
            refine lv_istore_n (lv' := [(3, .int (bI (trU t pa 0 (chC x k)))), (0, .ref h), (1, .int (nI x)), (2, .int (nI 2)), (4, .int (nI k))]) hx hb dX7_isTree_37 rfl hl (by decide) rfl (fun ls hl => ?_)
            refine N_iinc (a := k) (b := 1) (k9 := 4) (lv' := [(4, .int (nI (k + 1))), (3, .int (bI (trU t pa 0 (chC x k)))), (0, .ref h), (1, .int (nI x)), (2, .int (nI 2))]) hx hb dX7_isTree_38 hl rfl rfl (by decide) rfl (fun ls hl => ?_)
            refine lv_goto (tgt := 9) hx hb dX7_isTree_41 (by decide) ?_
            have hl : lv_has ls 5 [(0, .ref h), (1, .int (nI x)), (2, .int (nI 2)), (3, .int (bI (trU t pa 0 (chC x k)))), (4, .int (nI (k + 1)))] := lv_sub hl [2, 3, 4, 1, 0] rfl
            have e_4 : (bI (trU t pa 0 (chC x k))) = (bI (trK (trU t pa 0) (nearB t (pa x)) x (k + 1))) := by exact congrArg bI (by show _ = (if _ then _ else _); rw [if_pos c_16])
            rw [e_4] at hl
            have hl : lv_has ls 5 [(0, .ref h), (1, .int (nI x)), (2, .int (nI 2)), (3, .int (bI (trK (trU t pa 0) (nearB t (pa x)) x (k + 1)))), (4, .int (nI (k + 1)))] := hl
            exact ih_9 (k + 1) (by omega) (by omega) _ _ _ hP hD hS hl
  have hl : lv_has ls 5 [(0, .ref h), (1, .int (nI x)), (2, .int (nI 2)), (3, .int (bI (nearB t (pa x)))), (4, .int (nI 0))] := lv_sub hl [2, 3, 4, 1, 0] rfl
  have e_5 : (bI (nearB t (pa x))) = (bI (trK (trU t pa 0) (nearB t (pa x)) x 0)) := by rfl
  rw [e_5] at hl
  have hl : lv_has ls 5 [(0, .ref h), (1, .int (nI x)), (2, .int (nI 2)), (3, .int (bI (trK (trU t pa 0) (nearB t (pa x)) x 0))), (4, .int (nI 0))] := hl
  exact lp_9 _ 0 (by omega) (Nat.lt_succ_self _) _ _ _ hP hD hS hl
def rm_X7_isTree_3 : Room := ({ frames := 5, cells := 0, slots := 0, locals := 120 } : Room)
set_option maxHeartbeats 400000 in
set_option maxRecDepth 100000 in
theorem t_X7_isTree_3 (l : Launch) (G : GG) (b0 sz : Nat) (h sm pr L : Nat) (t : Int32) (x : Nat) (pa : Nat → Int32) (hxx : x < 64) (hr8 : x / 8 * 4 < 8) (hc8 : x % 8 * 4 < 8) : CT l yX7_isTree cX7_isTree 5 (some FieldType.boolean) (rm_X7_isTree_3) G b0 [.ref h, .int (nI x), .int (nI 3)] [oX h 6 [.ref sm, .ref pr, .int (nI L), .int t], aI G pr 64 pa] sz (Ri G (fun (r_ : Int32) (_ : Unit) => r_ = bI (trU t pa 2 x)) (fun (_ : Unit) => [oX h 6 [.ref sm, .ref pr, .int (nI L), .int t], aI G pr 64 pa])) := by
  refine CT.go (by decide) (Nat.le_of_ble_eq_true rfl) (fun p e s m below meth c A ls AR QQ hx hb hr hlk hml hown hnm hts hE hA hAb hsz hP hD hS hl hQQ => ?_)
  have hK := hE.1
  have hown : s.vm.findClass RX7 = some m.cls := hown
  have hl : lv_has ls 5 [(0, .ref h), (1, .int (nI x)), (2, .int (nI 3))] := hl
  clear hsz
  refine lv_aload_n hx hb dX7_isTree_0 rfl (lv_at hl 0 rfl) ?_
  refine lv_iload_n hx hb dX7_isTree_1 rfl (lv_at hl 1 rfl) ?_
  refine fin_i (ws' := (fun (_ : Unit) => [oX h 6 [.ref sm, .ref pr, .int (nI L), .int t], aI G pr 64 pa])) hA hS hP hD [0, 1] rfl [(true, 0), (true, 1)] (fun _ => rfl) (by decide) (run_V (As := [.int (nI x)]) (rest := []) (n9 := 1) hx hb hml hown hts hE hAb hl.1 hS hP hD [0, 1] rfl (by decide) (t_X7_isNear l G b0 _ h sm pr L t x pa (by omega)) (lw_V q1278 q1280 qs46 q119 q1281) 0 rfl rfl ⟨rfl, by decide, by decide, by decide +kernel⟩ ⟨Nat.le_of_ble_eq_true rfl, Nat.le_of_ble_eq_true rfl⟩ ⟨by first | exact Nat.le_of_ble_eq_true rfl | (simp only [rm_X7_isTree_3, rm_X7_isNear]; omega), by first | exact Nat.le_of_ble_eq_true rfl | (simp only [rm_X7_isTree_3, rm_X7_isNear]; omega)⟩ dX7_isTree_2 (Nat.le_of_ble_eq_true rfl) rfl rfl) (fun r_1 u_1 H locs h_1 hP hD hS => ?_)
  have hP : va_P G.1 vwCl [oX h 6 [.ref sm, .ref pr, .int (nI L), .int t], aI G pr 64 pa] _ := hP
  have hD : va_D A [oX h 6 [.ref sm, .ref pr, .int (nI L), .int t], aI G pr 64 pa] := hD
  have h_1 : r_1 = (bI (nearB t (pa x))) := h_1
  rw [h_1]
  refine lv_istore_n (lv' := [(3, .int (bI (nearB t (pa x)))), (0, .ref h), (1, .int (nI x)), (2, .int (nI 3))]) hx hb dX7_isTree_5 rfl hl (by decide) rfl (fun ls hl => ?_)
  refine lv_iconst (v := nI 0) hx hb dX7_isTree_6 (by decide) ?_
  refine lv_istore (lv' := [(4, .int (nI 0)), (3, .int (bI (nearB t (pa x)))), (0, .ref h), (1, .int (nI x)), (2, .int (nI 3))]) hx hb dX7_isTree_7 hl (by decide) rfl (fun ls hl => ?_)
  have lp_9 : ∀ (n_9 : Nat) (k : Nat), (k ≤ 4) → (4 - k) < n_9 → ∀ (H : Heap) (locs : List Loc) (ls : Array Slot), va_P G.1 vwCl [oX h 6 [.ref sm, .ref pr, .int (nI L), .int t], aI G pr 64 pa] H → va_D A [oX h 6 [.ref sm, .ref pr, .int (nI L), .int t], aI G pr 64 pa] → va_S A s.heap H locs → lv_has ls 5 [(0, .ref h), (1, .int (nI x)), (2, .int (nI 3)), (3, .int (bI (trK (trU t pa 1) (nearB t (pa x)) x k))), (4, .int (nI k))] → W p l e (rm_X7_isTree_3) s m AR below meth c H locs 0 0 QQ (F0 m 9 ls []) := by
    intro n_9
    induction n_9 with
    | zero => intro k hk hn_; exact absurd hn_ (Nat.not_lt_zero _)
    | succ n_9 ih_9 =>
      intro k hk hn_9 H locs ls hP hD hS hl
      refine lv_iload hx hb dX7_isTree_9 (lv_at hl 4 rfl) ?_
      refine lv_iconst (v := nI 4) hx hb dX7_isTree_11 (by decide) ?_
      refine N_icmp_ge (tgt := 44) hx hb dX7_isTree_12 (by decide) (by omega) (by omega) (fun c_12 => ?_) (fun c_12 => ?_)
      · skip
        refine lv_iload_n hx hb dX7_isTree_44 rfl (lv_at hl 3 rfl) ?_
        rw [hQQ]
        exact rt_z hx hb hr hlk (by first | exact bI_nar _ | rfl) (()) dX7_isTree_45 hP hD hS (by first | exact Nat.le_of_ble_eq_true rfl | (simp only [rm_X7_isTree_3]; omega)) (by first | exact Nat.le_of_ble_eq_true rfl | (simp only [rm_X7_isTree_3]; omega)) (by first | exact congrArg bI (trK_e (by omega)) | (rw [c_16]; exact congrArg bI (trK_x c_16 hk)))
      · skip
        refine lv_iload_n hx hb dX7_isTree_15 rfl (lv_at hl 3 rfl) ?_
        refine B_if_eq (tgt := 44) hx hb dX7_isTree_16 (by decide) (fun c_16 => ?_) (fun c_16 => ?_)
        · skip
          refine lv_iload_n hx hb dX7_isTree_44 rfl (lv_at hl 3 rfl) ?_
          rw [hQQ]
          exact rt_z hx hb hr hlk (by first | exact bI_nar _ | rfl) (()) dX7_isTree_45 hP hD hS (by first | exact Nat.le_of_ble_eq_true rfl | (simp only [rm_X7_isTree_3]; omega)) (by first | exact Nat.le_of_ble_eq_true rfl | (simp only [rm_X7_isTree_3]; omega)) (by first | exact congrArg bI (trK_e (by omega)) | (rw [c_16]; exact congrArg bI (trK_x c_16 hk)))
        · skip
          refine lv_iload_n hx hb dX7_isTree_19 rfl (lv_at hl 2 rfl) ?_
          refine lv_iconst (v := nI 1) hx hb dX7_isTree_20 (by decide) ?_
          refine N_icmp_le (tgt := 44) hx hb dX7_isTree_21 (by decide) (by omega) (by omega) (fun c_21 => ?_) (fun c_21 => ?_)
          · skip
            exfalso; omega
          · skip
            refine lv_aload_n hx hb dX7_isTree_24 rfl (lv_at hl 0 rfl) ?_
            refine lv_iload_n hx hb dX7_isTree_25 rfl (lv_at hl 1 rfl) ?_
            refine lv_iload hx hb dX7_isTree_26 (lv_at hl 4 rfl) ?_
            refine fin_i (ws' := (fun (_ : Unit) => [oX h 6 [.ref sm, .ref pr, .int (nI L), .int t], aI G pr 64 pa])) hA hS hP hD [] rfl [(false, 0), (false, 1)] (fun _ => rfl) (by decide) (run_S (As := [.int (nI x), .int (nI k)]) (rest := [.ref h]) (n9 := 2) hx hb hml hown hts hE hAb hl.1 hS hP hD [] rfl (by decide) (t_X7_child l G b0 _ x k (by omega) (by omega)) (lw_S q1283 q1284 q119 q1285) ⟨by decide, by decide, by decide +kernel⟩ ⟨Nat.le_of_ble_eq_true rfl, Nat.le_of_ble_eq_true rfl⟩ ⟨by first | exact Nat.le_of_ble_eq_true rfl | (simp only [rm_X7_isTree_3, rm_X7_child]; omega), by first | exact Nat.le_of_ble_eq_true rfl | (simp only [rm_X7_isTree_3, rm_X7_child]; omega)⟩ dX7_isTree_28 (Nat.le_of_ble_eq_true rfl) rfl rfl) (fun r_2 u_2 H locs h_2 hP hD hS => ?_)
            have hP : va_P G.1 vwCl [oX h 6 [.ref sm, .ref pr, .int (nI L), .int t], aI G pr 64 pa] _ := hP
            have hD : va_D A [oX h 6 [.ref sm, .ref pr, .int (nI L), .int t], aI G pr 64 pa] := hD
            have h_2 : r_2 = (nI (chC x k)) := h_2
            rw [h_2]
            have hch : chC x k < 64 ∧ chC x k / 8 * 2 < 8 ∧ chC x k % 8 * 2 < 8 := by unfold chC; omega
            refine lv_iload_n hx hb dX7_isTree_31 rfl (lv_at hl 2 rfl) ?_
            refine lv_iconst (v := nI 1) hx hb dX7_isTree_32 (by decide) ?_
            refine N_isub hx hb dX7_isTree_33 (by omega) ?_
            refine fin_i (ws' := (fun (_ : Unit) => [oX h 6 [.ref sm, .ref pr, .int (nI L), .int t], aI G pr 64 pa])) hA hS hP hD [0, 1] rfl [(true, 0), (true, 1)] (fun _ => rfl) (by decide) (run_V (As := [.int (nI (chC x k)), .int (nI 2)]) (rest := []) (n9 := 2) hx hb hml hown hts hE hAb hl.1 hS hP hD [0, 1] rfl (by decide) (t_X7_isTree_2 l G b0 _ h sm pr L t (chC x k) pa (by omega) (by omega) (by omega)) (lw_V q1274 q1275 q1276 q119 q1277) 0 rfl rfl ⟨rfl, by decide, by decide, by decide +kernel⟩ ⟨Nat.le_of_ble_eq_true rfl, Nat.le_of_ble_eq_true rfl⟩ ⟨by first | exact Nat.le_of_ble_eq_true rfl | (simp only [rm_X7_isTree_3, rm_X7_isTree_2]; omega), by first | exact Nat.le_of_ble_eq_true rfl | (simp only [rm_X7_isTree_3, rm_X7_isTree_2]; omega)⟩ dX7_isTree_34 (Nat.le_of_ble_eq_true rfl) rfl rfl) (fun r_3 u_3 H locs h_3 hP hD hS => ?_)
            have hP : va_P G.1 vwCl [oX h 6 [.ref sm, .ref pr, .int (nI L), .int t], aI G pr 64 pa] _ := hP
            have hD : va_D A [oX h 6 [.ref sm, .ref pr, .int (nI L), .int t], aI G pr 64 pa] := hD
            have h_3 : r_3 = (bI (trU t pa 1 (chC x k))) := h_3
            rw [h_3]
            refine lv_istore_n (lv' := [(3, .int (bI (trU t pa 1 (chC x k)))), (0, .ref h), (1, .int (nI x)), (2, .int (nI 3)), (4, .int (nI k))]) hx hb dX7_isTree_37 rfl hl (by decide) rfl (fun ls hl => ?_)
            refine N_iinc (a := k) (b := 1) (k9 := 4) (lv' := [(4, .int (nI (k + 1))), (3, .int (bI (trU t pa 1 (chC x k)))), (0, .ref h), (1, .int (nI x)), (2, .int (nI 3))]) hx hb dX7_isTree_38 hl rfl rfl (by decide) rfl (fun ls hl => ?_)
            refine lv_goto (tgt := 9) hx hb dX7_isTree_41 (by decide) ?_
            have hl : lv_has ls 5 [(0, .ref h), (1, .int (nI x)), (2, .int (nI 3)), (3, .int (bI (trU t pa 1 (chC x k)))), (4, .int (nI (k + 1)))] := lv_sub hl [2, 3, 4, 1, 0] rfl
            have e_4 : (bI (trU t pa 1 (chC x k))) = (bI (trK (trU t pa 1) (nearB t (pa x)) x (k + 1))) := by exact congrArg bI (by show _ = (if _ then _ else _); rw [if_pos c_16])
            rw [e_4] at hl
            have hl : lv_has ls 5 [(0, .ref h), (1, .int (nI x)), (2, .int (nI 3)), (3, .int (bI (trK (trU t pa 1) (nearB t (pa x)) x (k + 1)))), (4, .int (nI (k + 1)))] := hl
            exact ih_9 (k + 1) (by omega) (by omega) _ _ _ hP hD hS hl
  have hl : lv_has ls 5 [(0, .ref h), (1, .int (nI x)), (2, .int (nI 3)), (3, .int (bI (nearB t (pa x)))), (4, .int (nI 0))] := lv_sub hl [2, 3, 4, 1, 0] rfl
  have e_5 : (bI (nearB t (pa x))) = (bI (trK (trU t pa 1) (nearB t (pa x)) x 0)) := by rfl
  rw [e_5] at hl
  have hl : lv_has ls 5 [(0, .ref h), (1, .int (nI x)), (2, .int (nI 3)), (3, .int (bI (trK (trU t pa 1) (nearB t (pa x)) x 0))), (4, .int (nI 0))] := hl
  exact lp_9 _ 0 (by omega) (Nat.lt_succ_self _) _ _ _ hP hD hS hl
def rm_X7_count_1 : Room := ({ frames := 7, cells := 0, slots := 0, locals := 170 } : Room)
set_option maxHeartbeats 400000 in
set_option maxRecDepth 100000 in
theorem t_X7_count_1 (l : Launch) (G : GG) (b0 sz : Nat) (h sm pr L : Nat) (t : Int32) (x : Nat) (pa : Nat → Int32) (hxx : x < 64) (hr8 : x / 8 * 1 < 8) (hc8 : x % 8 * 1 < 8) : CT l yX7_count cX7_count 5 (some FieldType.int) (rm_X7_count_1) G b0 [.ref h, .int (nI x), .int (nI 1)] [oX h 6 [.ref sm, .ref pr, .int (nI L), .int t], aI G pr 64 pa] sz (Ri G (fun (r_ : Int32) (_ : Unit) => r_ = nI (cnU t pa 0 x)) (fun (_ : Unit) => [oX h 6 [.ref sm, .ref pr, .int (nI L), .int t], aI G pr 64 pa])) := by
  refine CT.go (by decide) (Nat.le_of_ble_eq_true rfl) (fun p e s m below meth c A ls AR QQ hx hb hr hlk hml hown hnm hts hE hA hAb hsz hP hD hS hl hQQ => ?_)
  have hK := hE.1
  have hown : s.vm.findClass RX7 = some m.cls := hown
  have hl : lv_has ls 5 [(0, .ref h), (1, .int (nI x)), (2, .int (nI 1))] := hl
  clear hsz
  refine lv_aload_n hx hb dX7_count_0 rfl (lv_at hl 0 rfl) ?_
  refine lv_iload_n hx hb dX7_count_1 rfl (lv_at hl 1 rfl) ?_
  refine lv_iload_n hx hb dX7_count_2 rfl (lv_at hl 2 rfl) ?_
  refine fin_i (ws' := (fun (_ : Unit) => [oX h 6 [.ref sm, .ref pr, .int (nI L), .int t], aI G pr 64 pa])) hA hS hP hD [0, 1] rfl [(true, 0), (true, 1)] (fun _ => rfl) (by decide) (run_V (As := [.int (nI x), .int (nI 1)]) (rest := []) (n9 := 2) hx hb hml hown hts hE hAb hl.1 hS hP hD [0, 1] rfl (by decide) (t_X7_isTree_1 l G b0 _ h sm pr L t x pa (by omega) (by omega) (by omega)) (lw_V q1274 q1275 q1276 q119 q1277) 0 rfl rfl ⟨rfl, by decide, by decide, by decide +kernel⟩ ⟨Nat.le_of_ble_eq_true rfl, Nat.le_of_ble_eq_true rfl⟩ ⟨by first | exact Nat.le_of_ble_eq_true rfl | (simp only [rm_X7_count_1, rm_X7_isTree_1]; omega), by first | exact Nat.le_of_ble_eq_true rfl | (simp only [rm_X7_count_1, rm_X7_isTree_1]; omega)⟩ dX7_count_3 (Nat.le_of_ble_eq_true rfl) rfl rfl) (fun r_1 u_1 H locs h_1 hP hD hS => ?_)
  have hP : va_P G.1 vwCl [oX h 6 [.ref sm, .ref pr, .int (nI L), .int t], aI G pr 64 pa] _ := hP
  have hD : va_D A [oX h 6 [.ref sm, .ref pr, .int (nI L), .int t], aI G pr 64 pa] := hD
  have h_1 : r_1 = (bI (trU t pa 0 x)) := h_1
  rw [h_1]
  refine B_if_eq (tgt := 11) hx hb dX7_count_6 (by decide) (fun c_6 => ?_) (fun c_6 => ?_)
  · skip
    refine lv_iconst (v := nI 0) hx hb dX7_count_11 (by decide) ?_
    refine lv_istore_n (lv' := [(3, .int (nI 0)), (0, .ref h), (1, .int (nI x)), (2, .int (nI 1))]) hx hb dX7_count_12 rfl hl (by decide) rfl (fun ls hl => ?_)
    refine lv_iconst (v := nI 0) hx hb dX7_count_13 (by decide) ?_
    refine lv_istore (lv' := [(4, .int (nI 0)), (3, .int (nI 0)), (0, .ref h), (1, .int (nI x)), (2, .int (nI 1))]) hx hb dX7_count_14 hl (by decide) rfl (fun ls hl => ?_)
    have lp_16 : ∀ (n_16 : Nat) (k : Nat), (k ≤ 4) → (4 - k) < n_16 → ∀ (H : Heap) (locs : List Loc) (ls : Array Slot), va_P G.1 vwCl [oX h 6 [.ref sm, .ref pr, .int (nI L), .int t], aI G pr 64 pa] H → va_D A [oX h 6 [.ref sm, .ref pr, .int (nI L), .int t], aI G pr 64 pa] → va_S A s.heap H locs → lv_has ls 5 [(0, .ref h), (1, .int (nI x)), (2, .int (nI 1)), (3, .int (nI 0)), (4, .int (nI k))] → W p l e (rm_X7_count_1) s m AR below meth c H locs 0 0 QQ (F0 m 16 ls []) := by
      intro n_16
      induction n_16 with
      | zero => intro k hk hn_; exact absurd hn_ (Nat.not_lt_zero _)
      | succ n_16 ih_16 =>
        intro k hk hn_16 H locs ls hP hD hS hl
        refine lv_iload hx hb dX7_count_16 (lv_at hl 4 rfl) ?_
        refine lv_iconst (v := nI 4) hx hb dX7_count_18 (by decide) ?_
        refine N_icmp_ge (tgt := 49) hx hb dX7_count_19 (by decide) (by omega) (by omega) (fun c_19 => ?_) (fun c_19 => ?_)
        · skip
          refine lv_iload_n hx hb dX7_count_49 rfl (lv_at hl 3 rfl) ?_
          rw [hQQ]
          exact rt_i hx hb hr hlk  (()) dX7_count_50 hP hD hS (by first | exact Nat.le_of_ble_eq_true rfl | (simp only [rm_X7_count_1]; omega)) (by first | exact Nat.le_of_ble_eq_true rfl | (simp only [rm_X7_count_1]; omega)) (by first | (unfold cnU; rw [if_neg (by rw [c_6]; decide)]; done) | (unfold cnU; rw [if_pos c_6]; done))
        · skip
          refine lv_iload_n hx hb dX7_count_22 rfl (lv_at hl 2 rfl) ?_
          refine lv_iconst (v := nI 1) hx hb dX7_count_23 (by decide) ?_
          refine N_icmp_le (tgt := 49) hx hb dX7_count_24 (by decide) (by omega) (by omega) (fun c_24 => ?_) (fun c_24 => ?_)
          · skip
            refine lv_iload_n hx hb dX7_count_49 rfl (lv_at hl 3 rfl) ?_
            rw [hQQ]
            exact rt_i hx hb hr hlk  (()) dX7_count_50 hP hD hS (by first | exact Nat.le_of_ble_eq_true rfl | (simp only [rm_X7_count_1]; omega)) (by first | exact Nat.le_of_ble_eq_true rfl | (simp only [rm_X7_count_1]; omega)) (by first | (unfold cnU; rw [if_neg (by rw [c_6]; decide)]; done) | (unfold cnU; rw [if_pos c_6]; done))
          · skip
            exfalso; omega
    have hl : lv_has ls 5 [(0, .ref h), (1, .int (nI x)), (2, .int (nI 1)), (3, .int (nI 0)), (4, .int (nI 0))] := lv_sub hl [2, 3, 4, 1, 0] rfl
    exact lp_16 _ 0 (by omega) (Nat.lt_succ_self _) _ _ _ hP hD hS hl
  · skip
    refine lv_iconst (v := nI 1) hx hb dX7_count_9 (by decide) ?_
    rw [hQQ]
    exact rt_i hx hb hr hlk  (()) dX7_count_10 hP hD hS (by first | exact Nat.le_of_ble_eq_true rfl | (simp only [rm_X7_count_1]; omega)) (by first | exact Nat.le_of_ble_eq_true rfl | (simp only [rm_X7_count_1]; omega)) (by first | (unfold cnU; rw [if_neg (by rw [c_6]; decide)]; done) | (unfold cnU; rw [if_pos c_6]; done))
def rm_X7_count_2 : Room := ({ frames := 8, cells := 0, slots := 0, locals := 200 } : Room)
set_option maxHeartbeats 400000 in
set_option maxRecDepth 100000 in
theorem t_X7_count_2 (l : Launch) (G : GG) (b0 sz : Nat) (h sm pr L : Nat) (t : Int32) (x : Nat) (pa : Nat → Int32) (hxx : x < 64) (hr8 : x / 8 * 2 < 8) (hc8 : x % 8 * 2 < 8) : CT l yX7_count cX7_count 5 (some FieldType.int) (rm_X7_count_2) G b0 [.ref h, .int (nI x), .int (nI 2)] [oX h 6 [.ref sm, .ref pr, .int (nI L), .int t], aI G pr 64 pa] sz (Ri G (fun (r_ : Int32) (_ : Unit) => r_ = nI (cnU t pa 1 x)) (fun (_ : Unit) => [oX h 6 [.ref sm, .ref pr, .int (nI L), .int t], aI G pr 64 pa])) := by
  refine CT.go (by decide) (Nat.le_of_ble_eq_true rfl) (fun p e s m below meth c A ls AR QQ hx hb hr hlk hml hown hnm hts hE hA hAb hsz hP hD hS hl hQQ => ?_)
  have hK := hE.1
  have hown : s.vm.findClass RX7 = some m.cls := hown
  have hl : lv_has ls 5 [(0, .ref h), (1, .int (nI x)), (2, .int (nI 2))] := hl
  clear hsz
  refine lv_aload_n hx hb dX7_count_0 rfl (lv_at hl 0 rfl) ?_
  refine lv_iload_n hx hb dX7_count_1 rfl (lv_at hl 1 rfl) ?_
  refine lv_iload_n hx hb dX7_count_2 rfl (lv_at hl 2 rfl) ?_
  refine fin_i (ws' := (fun (_ : Unit) => [oX h 6 [.ref sm, .ref pr, .int (nI L), .int t], aI G pr 64 pa])) hA hS hP hD [0, 1] rfl [(true, 0), (true, 1)] (fun _ => rfl) (by decide) (run_V (As := [.int (nI x), .int (nI 2)]) (rest := []) (n9 := 2) hx hb hml hown hts hE hAb hl.1 hS hP hD [0, 1] rfl (by decide) (t_X7_isTree_2 l G b0 _ h sm pr L t x pa (by omega) (by omega) (by omega)) (lw_V q1274 q1275 q1276 q119 q1277) 0 rfl rfl ⟨rfl, by decide, by decide, by decide +kernel⟩ ⟨Nat.le_of_ble_eq_true rfl, Nat.le_of_ble_eq_true rfl⟩ ⟨by first | exact Nat.le_of_ble_eq_true rfl | (simp only [rm_X7_count_2, rm_X7_isTree_2]; omega), by first | exact Nat.le_of_ble_eq_true rfl | (simp only [rm_X7_count_2, rm_X7_isTree_2]; omega)⟩ dX7_count_3 (Nat.le_of_ble_eq_true rfl) rfl rfl) (fun r_1 u_1 H locs h_1 hP hD hS => ?_)
  have hP : va_P G.1 vwCl [oX h 6 [.ref sm, .ref pr, .int (nI L), .int t], aI G pr 64 pa] _ := hP
  have hD : va_D A [oX h 6 [.ref sm, .ref pr, .int (nI L), .int t], aI G pr 64 pa] := hD
  have h_1 : r_1 = (bI (trU t pa 1 x)) := h_1
  rw [h_1]
  refine B_if_eq (tgt := 11) hx hb dX7_count_6 (by decide) (fun c_6 => ?_) (fun c_6 => ?_)
  · skip
    refine lv_iconst (v := nI 0) hx hb dX7_count_11 (by decide) ?_
    refine lv_istore_n (lv' := [(3, .int (nI 0)), (0, .ref h), (1, .int (nI x)), (2, .int (nI 2))]) hx hb dX7_count_12 rfl hl (by decide) rfl (fun ls hl => ?_)
    refine lv_iconst (v := nI 0) hx hb dX7_count_13 (by decide) ?_
    refine lv_istore (lv' := [(4, .int (nI 0)), (3, .int (nI 0)), (0, .ref h), (1, .int (nI x)), (2, .int (nI 2))]) hx hb dX7_count_14 hl (by decide) rfl (fun ls hl => ?_)
    have lp_16 : ∀ (n_16 : Nat) (k : Nat), (k ≤ 4) → (4 - k) < n_16 → ∀ (H : Heap) (locs : List Loc) (ls : Array Slot), va_P G.1 vwCl [oX h 6 [.ref sm, .ref pr, .int (nI L), .int t], aI G pr 64 pa] H → va_D A [oX h 6 [.ref sm, .ref pr, .int (nI L), .int t], aI G pr 64 pa] → va_S A s.heap H locs → lv_has ls 5 [(0, .ref h), (1, .int (nI x)), (2, .int (nI 2)), (3, .int (nI (cnK (cnU t pa 0) x k))), (4, .int (nI k))] → W p l e (rm_X7_count_2) s m AR below meth c H locs 0 0 QQ (F0 m 16 ls []) := by
      intro n_16
      induction n_16 with
      | zero => intro k hk hn_; exact absurd hn_ (Nat.not_lt_zero _)
      | succ n_16 ih_16 =>
        intro k hk hn_16 H locs ls hP hD hS hl
        refine lv_iload hx hb dX7_count_16 (lv_at hl 4 rfl) ?_
        refine lv_iconst (v := nI 4) hx hb dX7_count_18 (by decide) ?_
        refine N_icmp_ge (tgt := 49) hx hb dX7_count_19 (by decide) (by omega) (by omega) (fun c_19 => ?_) (fun c_19 => ?_)
        · skip
          refine lv_iload_n hx hb dX7_count_49 rfl (lv_at hl 3 rfl) ?_
          rw [hQQ]
          exact rt_i hx hb hr hlk  (()) dX7_count_50 hP hD hS (by first | exact Nat.le_of_ble_eq_true rfl | (simp only [rm_X7_count_2]; omega)) (by first | exact Nat.le_of_ble_eq_true rfl | (simp only [rm_X7_count_2]; omega)) (by first | exact congrArg nI (cnK_e (by omega) c_6) | (unfold cnU; rw [if_pos c_6]; done))
        · skip
          refine lv_iload_n hx hb dX7_count_22 rfl (lv_at hl 2 rfl) ?_
          refine lv_iconst (v := nI 1) hx hb dX7_count_23 (by decide) ?_
          refine N_icmp_le (tgt := 49) hx hb dX7_count_24 (by decide) (by omega) (by omega) (fun c_24 => ?_) (fun c_24 => ?_)
          · skip
            exfalso; omega
          · skip
            refine lv_iload_n hx hb dX7_count_27 rfl (lv_at hl 3 rfl) ?_
            refine lv_aload_n hx hb dX7_count_28 rfl (lv_at hl 0 rfl) ?_
            refine lv_iload_n hx hb dX7_count_29 rfl (lv_at hl 1 rfl) ?_
            refine lv_iload hx hb dX7_count_30 (lv_at hl 4 rfl) ?_
            refine fin_i (ws' := (fun (_ : Unit) => [oX h 6 [.ref sm, .ref pr, .int (nI L), .int t], aI G pr 64 pa])) hA hS hP hD [] rfl [(false, 0), (false, 1)] (fun _ => rfl) (by decide) (run_S (As := [.int (nI x), .int (nI k)]) (rest := [.ref h, .int (nI (cnK (cnU t pa 0) x k))]) (n9 := 2) hx hb hml hown hts hE hAb hl.1 hS hP hD [] rfl (by decide) (t_X7_child l G b0 _ x k (by omega) (by omega)) (lw_S q1283 q1284 q119 q1285) ⟨by decide, by decide, by decide +kernel⟩ ⟨Nat.le_of_ble_eq_true rfl, Nat.le_of_ble_eq_true rfl⟩ ⟨by first | exact Nat.le_of_ble_eq_true rfl | (simp only [rm_X7_count_2, rm_X7_child]; omega), by first | exact Nat.le_of_ble_eq_true rfl | (simp only [rm_X7_count_2, rm_X7_child]; omega)⟩ dX7_count_32 (Nat.le_of_ble_eq_true rfl) rfl rfl) (fun r_2 u_2 H locs h_2 hP hD hS => ?_)
            have hP : va_P G.1 vwCl [oX h 6 [.ref sm, .ref pr, .int (nI L), .int t], aI G pr 64 pa] _ := hP
            have hD : va_D A [oX h 6 [.ref sm, .ref pr, .int (nI L), .int t], aI G pr 64 pa] := hD
            have h_2 : r_2 = (nI (chC x k)) := h_2
            rw [h_2]
            have hch : chC x k < 64 ∧ chC x k / 8 * 1 < 8 ∧ chC x k % 8 * 1 < 8 := by unfold chC; omega
            refine lv_iload_n hx hb dX7_count_35 rfl (lv_at hl 2 rfl) ?_
            refine lv_iconst (v := nI 1) hx hb dX7_count_36 (by decide) ?_
            refine N_isub hx hb dX7_count_37 (by omega) ?_
            refine fin_i (ws' := (fun (_ : Unit) => [oX h 6 [.ref sm, .ref pr, .int (nI L), .int t], aI G pr 64 pa])) hA hS hP hD [0, 1] rfl [(true, 0), (true, 1)] (fun _ => rfl) (by decide) (run_V (As := [.int (nI (chC x k)), .int (nI 1)]) (rest := [.int (nI (cnK (cnU t pa 0) x k))]) (n9 := 2) hx hb hml hown hts hE hAb hl.1 hS hP hD [0, 1] rfl (by decide) (t_X7_count_1 l G b0 _ h sm pr L t (chC x k) pa (by omega) (by omega) (by omega)) (lw_V q1270 q1272 qs45 q119 q1273) 0 rfl rfl ⟨rfl, by decide, by decide, by decide +kernel⟩ ⟨Nat.le_of_ble_eq_true rfl, Nat.le_of_ble_eq_true rfl⟩ ⟨by first | exact Nat.le_of_ble_eq_true rfl | (simp only [rm_X7_count_2, rm_X7_count_1]; omega), by first | exact Nat.le_of_ble_eq_true rfl | (simp only [rm_X7_count_2, rm_X7_count_1]; omega)⟩ dX7_count_38 (Nat.le_of_ble_eq_true rfl) rfl rfl) (fun r_3 u_3 H locs h_3 hP hD hS => ?_)
            have hP : va_P G.1 vwCl [oX h 6 [.ref sm, .ref pr, .int (nI L), .int t], aI G pr 64 pa] _ := hP
            have hD : va_D A [oX h 6 [.ref sm, .ref pr, .int (nI L), .int t], aI G pr 64 pa] := hD
            have h_3 : r_3 = (nI (cnU t pa 0 (chC x k))) := h_3
            rw [h_3]
            refine N_iadd hx hb dX7_count_41 ?_
            refine lv_istore_n (lv' := [(3, .int (nI ((cnK (cnU t pa 0) x k) + (cnU t pa 0 (chC x k))))), (0, .ref h), (1, .int (nI x)), (2, .int (nI 2)), (4, .int (nI k))]) hx hb dX7_count_42 rfl hl (by decide) rfl (fun ls hl => ?_)
            refine N_iinc (a := k) (b := 1) (k9 := 4) (lv' := [(4, .int (nI (k + 1))), (3, .int (nI ((cnK (cnU t pa 0) x k) + (cnU t pa 0 (chC x k))))), (0, .ref h), (1, .int (nI x)), (2, .int (nI 2))]) hx hb dX7_count_43 hl rfl rfl (by decide) rfl (fun ls hl => ?_)
            refine lv_goto (tgt := 16) hx hb dX7_count_46 (by decide) ?_
            have hl : lv_has ls 5 [(0, .ref h), (1, .int (nI x)), (2, .int (nI 2)), (3, .int (nI ((cnK (cnU t pa 0) x k) + (cnU t pa 0 (chC x k))))), (4, .int (nI (k + 1)))] := lv_sub hl [2, 3, 4, 1, 0] rfl
            have e_4 : (nI ((cnK (cnU t pa 0) x k) + (cnU t pa 0 (chC x k)))) = (nI (cnK (cnU t pa 0) x (k + 1))) := by rfl
            rw [e_4] at hl
            have hl : lv_has ls 5 [(0, .ref h), (1, .int (nI x)), (2, .int (nI 2)), (3, .int (nI (cnK (cnU t pa 0) x (k + 1)))), (4, .int (nI (k + 1)))] := hl
            exact ih_16 (k + 1) (by omega) (by omega) _ _ _ hP hD hS hl
    have hl : lv_has ls 5 [(0, .ref h), (1, .int (nI x)), (2, .int (nI 2)), (3, .int (nI 0)), (4, .int (nI 0))] := lv_sub hl [2, 3, 4, 1, 0] rfl
    have e_5 : (nI 0) = (nI (cnK (cnU t pa 0) x 0)) := by rfl
    rw [e_5] at hl
    have hl : lv_has ls 5 [(0, .ref h), (1, .int (nI x)), (2, .int (nI 2)), (3, .int (nI (cnK (cnU t pa 0) x 0))), (4, .int (nI 0))] := hl
    exact lp_16 _ 0 (by omega) (Nat.lt_succ_self _) _ _ _ hP hD hS hl
  · skip
    refine lv_iconst (v := nI 1) hx hb dX7_count_9 (by decide) ?_
    rw [hQQ]
    exact rt_i hx hb hr hlk  (()) dX7_count_10 hP hD hS (by first | exact Nat.le_of_ble_eq_true rfl | (simp only [rm_X7_count_2]; omega)) (by first | exact Nat.le_of_ble_eq_true rfl | (simp only [rm_X7_count_2]; omega)) (by first | exact congrArg nI (cnK_e (by omega) c_6) | (unfold cnU; rw [if_pos c_6]; done))
def rm_X7_count_3 : Room := ({ frames := 9, cells := 0, slots := 0, locals := 230 } : Room)
set_option maxHeartbeats 400000 in
set_option maxRecDepth 100000 in
theorem t_X7_count_3 (l : Launch) (G : GG) (b0 sz : Nat) (h sm pr L : Nat) (t : Int32) (x : Nat) (pa : Nat → Int32) (hxx : x < 64) (hr8 : x / 8 * 4 < 8) (hc8 : x % 8 * 4 < 8) : CT l yX7_count cX7_count 5 (some FieldType.int) (rm_X7_count_3) G b0 [.ref h, .int (nI x), .int (nI 3)] [oX h 6 [.ref sm, .ref pr, .int (nI L), .int t], aI G pr 64 pa] sz (Ri G (fun (r_ : Int32) (_ : Unit) => r_ = nI (cnU t pa 2 x)) (fun (_ : Unit) => [oX h 6 [.ref sm, .ref pr, .int (nI L), .int t], aI G pr 64 pa])) := by
  refine CT.go (by decide) (Nat.le_of_ble_eq_true rfl) (fun p e s m below meth c A ls AR QQ hx hb hr hlk hml hown hnm hts hE hA hAb hsz hP hD hS hl hQQ => ?_)
  have hK := hE.1
  have hown : s.vm.findClass RX7 = some m.cls := hown
  have hl : lv_has ls 5 [(0, .ref h), (1, .int (nI x)), (2, .int (nI 3))] := hl
  clear hsz
  refine lv_aload_n hx hb dX7_count_0 rfl (lv_at hl 0 rfl) ?_
  refine lv_iload_n hx hb dX7_count_1 rfl (lv_at hl 1 rfl) ?_
  refine lv_iload_n hx hb dX7_count_2 rfl (lv_at hl 2 rfl) ?_
  refine fin_i (ws' := (fun (_ : Unit) => [oX h 6 [.ref sm, .ref pr, .int (nI L), .int t], aI G pr 64 pa])) hA hS hP hD [0, 1] rfl [(true, 0), (true, 1)] (fun _ => rfl) (by decide) (run_V (As := [.int (nI x), .int (nI 3)]) (rest := []) (n9 := 2) hx hb hml hown hts hE hAb hl.1 hS hP hD [0, 1] rfl (by decide) (t_X7_isTree_3 l G b0 _ h sm pr L t x pa (by omega) (by omega) (by omega)) (lw_V q1274 q1275 q1276 q119 q1277) 0 rfl rfl ⟨rfl, by decide, by decide, by decide +kernel⟩ ⟨Nat.le_of_ble_eq_true rfl, Nat.le_of_ble_eq_true rfl⟩ ⟨by first | exact Nat.le_of_ble_eq_true rfl | (simp only [rm_X7_count_3, rm_X7_isTree_3]; omega), by first | exact Nat.le_of_ble_eq_true rfl | (simp only [rm_X7_count_3, rm_X7_isTree_3]; omega)⟩ dX7_count_3 (Nat.le_of_ble_eq_true rfl) rfl rfl) (fun r_1 u_1 H locs h_1 hP hD hS => ?_)
  have hP : va_P G.1 vwCl [oX h 6 [.ref sm, .ref pr, .int (nI L), .int t], aI G pr 64 pa] _ := hP
  have hD : va_D A [oX h 6 [.ref sm, .ref pr, .int (nI L), .int t], aI G pr 64 pa] := hD
  have h_1 : r_1 = (bI (trU t pa 2 x)) := h_1
  rw [h_1]
  refine B_if_eq (tgt := 11) hx hb dX7_count_6 (by decide) (fun c_6 => ?_) (fun c_6 => ?_)
  · skip
    refine lv_iconst (v := nI 0) hx hb dX7_count_11 (by decide) ?_
    refine lv_istore_n (lv' := [(3, .int (nI 0)), (0, .ref h), (1, .int (nI x)), (2, .int (nI 3))]) hx hb dX7_count_12 rfl hl (by decide) rfl (fun ls hl => ?_)
    refine lv_iconst (v := nI 0) hx hb dX7_count_13 (by decide) ?_
    refine lv_istore (lv' := [(4, .int (nI 0)), (3, .int (nI 0)), (0, .ref h), (1, .int (nI x)), (2, .int (nI 3))]) hx hb dX7_count_14 hl (by decide) rfl (fun ls hl => ?_)
    have lp_16 : ∀ (n_16 : Nat) (k : Nat), (k ≤ 4) → (4 - k) < n_16 → ∀ (H : Heap) (locs : List Loc) (ls : Array Slot), va_P G.1 vwCl [oX h 6 [.ref sm, .ref pr, .int (nI L), .int t], aI G pr 64 pa] H → va_D A [oX h 6 [.ref sm, .ref pr, .int (nI L), .int t], aI G pr 64 pa] → va_S A s.heap H locs → lv_has ls 5 [(0, .ref h), (1, .int (nI x)), (2, .int (nI 3)), (3, .int (nI (cnK (cnU t pa 1) x k))), (4, .int (nI k))] → W p l e (rm_X7_count_3) s m AR below meth c H locs 0 0 QQ (F0 m 16 ls []) := by
      intro n_16
      induction n_16 with
      | zero => intro k hk hn_; exact absurd hn_ (Nat.not_lt_zero _)
      | succ n_16 ih_16 =>
        intro k hk hn_16 H locs ls hP hD hS hl
        refine lv_iload hx hb dX7_count_16 (lv_at hl 4 rfl) ?_
        refine lv_iconst (v := nI 4) hx hb dX7_count_18 (by decide) ?_
        refine N_icmp_ge (tgt := 49) hx hb dX7_count_19 (by decide) (by omega) (by omega) (fun c_19 => ?_) (fun c_19 => ?_)
        · skip
          refine lv_iload_n hx hb dX7_count_49 rfl (lv_at hl 3 rfl) ?_
          rw [hQQ]
          exact rt_i hx hb hr hlk  (()) dX7_count_50 hP hD hS (by first | exact Nat.le_of_ble_eq_true rfl | (simp only [rm_X7_count_3]; omega)) (by first | exact Nat.le_of_ble_eq_true rfl | (simp only [rm_X7_count_3]; omega)) (by first | exact congrArg nI (cnK_e (by omega) c_6) | (unfold cnU; rw [if_pos c_6]; done))
        · skip
          refine lv_iload_n hx hb dX7_count_22 rfl (lv_at hl 2 rfl) ?_
          refine lv_iconst (v := nI 1) hx hb dX7_count_23 (by decide) ?_
          refine N_icmp_le (tgt := 49) hx hb dX7_count_24 (by decide) (by omega) (by omega) (fun c_24 => ?_) (fun c_24 => ?_)
          · skip
            exfalso; omega
          · skip
            refine lv_iload_n hx hb dX7_count_27 rfl (lv_at hl 3 rfl) ?_
            refine lv_aload_n hx hb dX7_count_28 rfl (lv_at hl 0 rfl) ?_
            refine lv_iload_n hx hb dX7_count_29 rfl (lv_at hl 1 rfl) ?_
            refine lv_iload hx hb dX7_count_30 (lv_at hl 4 rfl) ?_
            refine fin_i (ws' := (fun (_ : Unit) => [oX h 6 [.ref sm, .ref pr, .int (nI L), .int t], aI G pr 64 pa])) hA hS hP hD [] rfl [(false, 0), (false, 1)] (fun _ => rfl) (by decide) (run_S (As := [.int (nI x), .int (nI k)]) (rest := [.ref h, .int (nI (cnK (cnU t pa 1) x k))]) (n9 := 2) hx hb hml hown hts hE hAb hl.1 hS hP hD [] rfl (by decide) (t_X7_child l G b0 _ x k (by omega) (by omega)) (lw_S q1283 q1284 q119 q1285) ⟨by decide, by decide, by decide +kernel⟩ ⟨Nat.le_of_ble_eq_true rfl, Nat.le_of_ble_eq_true rfl⟩ ⟨by first | exact Nat.le_of_ble_eq_true rfl | (simp only [rm_X7_count_3, rm_X7_child]; omega), by first | exact Nat.le_of_ble_eq_true rfl | (simp only [rm_X7_count_3, rm_X7_child]; omega)⟩ dX7_count_32 (Nat.le_of_ble_eq_true rfl) rfl rfl) (fun r_2 u_2 H locs h_2 hP hD hS => ?_)
            have hP : va_P G.1 vwCl [oX h 6 [.ref sm, .ref pr, .int (nI L), .int t], aI G pr 64 pa] _ := hP
            have hD : va_D A [oX h 6 [.ref sm, .ref pr, .int (nI L), .int t], aI G pr 64 pa] := hD
            have h_2 : r_2 = (nI (chC x k)) := h_2
            rw [h_2]
            have hch : chC x k < 64 ∧ chC x k / 8 * 2 < 8 ∧ chC x k % 8 * 2 < 8 := by unfold chC; omega
            refine lv_iload_n hx hb dX7_count_35 rfl (lv_at hl 2 rfl) ?_
            refine lv_iconst (v := nI 1) hx hb dX7_count_36 (by decide) ?_
            refine N_isub hx hb dX7_count_37 (by omega) ?_
            refine fin_i (ws' := (fun (_ : Unit) => [oX h 6 [.ref sm, .ref pr, .int (nI L), .int t], aI G pr 64 pa])) hA hS hP hD [0, 1] rfl [(true, 0), (true, 1)] (fun _ => rfl) (by decide) (run_V (As := [.int (nI (chC x k)), .int (nI 2)]) (rest := [.int (nI (cnK (cnU t pa 1) x k))]) (n9 := 2) hx hb hml hown hts hE hAb hl.1 hS hP hD [0, 1] rfl (by decide) (t_X7_count_2 l G b0 _ h sm pr L t (chC x k) pa (by omega) (by omega) (by omega)) (lw_V q1270 q1272 qs45 q119 q1273) 0 rfl rfl ⟨rfl, by decide, by decide, by decide +kernel⟩ ⟨Nat.le_of_ble_eq_true rfl, Nat.le_of_ble_eq_true rfl⟩ ⟨by first | exact Nat.le_of_ble_eq_true rfl | (simp only [rm_X7_count_3, rm_X7_count_2]; omega), by first | exact Nat.le_of_ble_eq_true rfl | (simp only [rm_X7_count_3, rm_X7_count_2]; omega)⟩ dX7_count_38 (Nat.le_of_ble_eq_true rfl) rfl rfl) (fun r_3 u_3 H locs h_3 hP hD hS => ?_)
            have hP : va_P G.1 vwCl [oX h 6 [.ref sm, .ref pr, .int (nI L), .int t], aI G pr 64 pa] _ := hP
            have hD : va_D A [oX h 6 [.ref sm, .ref pr, .int (nI L), .int t], aI G pr 64 pa] := hD
            have h_3 : r_3 = (nI (cnU t pa 1 (chC x k))) := h_3
            rw [h_3]
            refine N_iadd hx hb dX7_count_41 ?_
            refine lv_istore_n (lv' := [(3, .int (nI ((cnK (cnU t pa 1) x k) + (cnU t pa 1 (chC x k))))), (0, .ref h), (1, .int (nI x)), (2, .int (nI 3)), (4, .int (nI k))]) hx hb dX7_count_42 rfl hl (by decide) rfl (fun ls hl => ?_)
            refine N_iinc (a := k) (b := 1) (k9 := 4) (lv' := [(4, .int (nI (k + 1))), (3, .int (nI ((cnK (cnU t pa 1) x k) + (cnU t pa 1 (chC x k))))), (0, .ref h), (1, .int (nI x)), (2, .int (nI 3))]) hx hb dX7_count_43 hl rfl rfl (by decide) rfl (fun ls hl => ?_)
            refine lv_goto (tgt := 16) hx hb dX7_count_46 (by decide) ?_
            have hl : lv_has ls 5 [(0, .ref h), (1, .int (nI x)), (2, .int (nI 3)), (3, .int (nI ((cnK (cnU t pa 1) x k) + (cnU t pa 1 (chC x k))))), (4, .int (nI (k + 1)))] := lv_sub hl [2, 3, 4, 1, 0] rfl
            have e_4 : (nI ((cnK (cnU t pa 1) x k) + (cnU t pa 1 (chC x k)))) = (nI (cnK (cnU t pa 1) x (k + 1))) := by rfl
            rw [e_4] at hl
            have hl : lv_has ls 5 [(0, .ref h), (1, .int (nI x)), (2, .int (nI 3)), (3, .int (nI (cnK (cnU t pa 1) x (k + 1)))), (4, .int (nI (k + 1)))] := hl
            exact ih_16 (k + 1) (by omega) (by omega) _ _ _ hP hD hS hl
    have hl : lv_has ls 5 [(0, .ref h), (1, .int (nI x)), (2, .int (nI 3)), (3, .int (nI 0)), (4, .int (nI 0))] := lv_sub hl [2, 3, 4, 1, 0] rfl
    have e_5 : (nI 0) = (nI (cnK (cnU t pa 1) x 0)) := by rfl
    rw [e_5] at hl
    have hl : lv_has ls 5 [(0, .ref h), (1, .int (nI x)), (2, .int (nI 3)), (3, .int (nI (cnK (cnU t pa 1) x 0))), (4, .int (nI 0))] := hl
    exact lp_16 _ 0 (by omega) (Nat.lt_succ_self _) _ _ _ hP hD hS hl
  · skip
    refine lv_iconst (v := nI 1) hx hb dX7_count_9 (by decide) ?_
    rw [hQQ]
    exact rt_i hx hb hr hlk  (()) dX7_count_10 hP hD hS (by first | exact Nat.le_of_ble_eq_true rfl | (simp only [rm_X7_count_3]; omega)) (by first | exact Nat.le_of_ble_eq_true rfl | (simp only [rm_X7_count_3]; omega)) (by first | exact congrArg nI (cnK_e (by omega) c_6) | (unfold cnU; rw [if_pos c_6]; done))
