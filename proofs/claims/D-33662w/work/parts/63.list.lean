/-! ===== the list of saved sheets ===== -/
theorem tl_at {ws tl : va_W} {j : Nat} {q : Nat × va_E} (h : tl[j]? = some q) : (ws ++ tl)[ws.length + j]? = some q := by
  rw [List.getElem?_append_right (Nat.le_add_right _ _), Nat.add_sub_cancel_left]
  exact h
def rm_J9_size : Room := ({ frames := 0, cells := 0, slots := 0, locals := 0 } : Room)
set_option maxHeartbeats 400000 in
set_option maxRecDepth 100000 in
theorem t_J9_size (l : Launch) (G : GG) (b0 sz : Nat) (h ea k : Nat) (mc : Int32) : CT l yJ9_size cJ9_size 1 (some FieldType.int) (rm_J9_size) G b0 [.ref h] [oX h 11 [.int mc, .ref ea, .int (nI k)]] sz (Ri G (fun (r_ : Int32) (_ : Unit) => r_ = nI k) (fun (_ : Unit) => [oX h 11 [.int mc, .ref ea, .int (nI k)]])) := by
  refine CT.go (by decide) (Nat.le_of_ble_eq_true rfl) (fun p e s m below meth c A ls AR QQ hx hb hr hlk hml hown hnm hts hE hA hAb hsz hP hD hS hl hQQ => ?_)
  have hK := hE.1
  have hown : s.vm.findClass RJ9 = some m.cls := hown
  have hl : lv_has ls 1 [(0, .ref h)] := hl
  clear hsz
  refine lv_aload_n hx hb dJ9_size_0 rfl (lv_at hl 0 rfl) ?_
  refine va_get (D := G.1) (ci := 11) (v := .int (nI k)) (C := RJ9) (T := TJ9) (N := 3) hx hb hts in_J9 hown hK hP 0 rfl rfl 2 (by decide) (hts _ q450) (fun _ h9 => h9) rfl dJ9_size_1 ?_
  rw [hQQ]
  exact rt_i hx hb hr hlk  ((())) dJ9_size_4 hP hD hS (by first | exact Nat.le_of_ble_eq_true rfl | (simp only [rm_J9_size]; omega) | omega) (by first | exact Nat.le_of_ble_eq_true rfl | (simp only [rm_J9_size]; omega) | omega) (by rfl)
def rm_J9_isEmpty : Room := ({ frames := 0, cells := 0, slots := 0, locals := 0 } : Room)
set_option maxHeartbeats 400000 in
set_option maxRecDepth 100000 in
theorem t_J9_isEmpty (l : Launch) (G : GG) (b0 sz : Nat) (h ea k : Nat) (mc : Int32) (hk : k < 1000) : CT l yJ9_isEmpty cJ9_isEmpty 1 (some FieldType.boolean) (rm_J9_isEmpty) G b0 [.ref h] [oX h 11 [.int mc, .ref ea, .int (nI k)]] sz (Ri G (fun (r_ : Int32) (_ : Unit) => r_ = bI (decide (k = 0))) (fun (_ : Unit) => [oX h 11 [.int mc, .ref ea, .int (nI k)]])) := by
  refine CT.go (by decide) (Nat.le_of_ble_eq_true rfl) (fun p e s m below meth c A ls AR QQ hx hb hr hlk hml hown hnm hts hE hA hAb hsz hP hD hS hl hQQ => ?_)
  have hK := hE.1
  have hown : s.vm.findClass RJ9 = some m.cls := hown
  have hl : lv_has ls 1 [(0, .ref h)] := hl
  clear hsz
  refine lv_aload_n hx hb dJ9_isEmpty_0 rfl (lv_at hl 0 rfl) ?_
  refine va_get (D := G.1) (ci := 11) (v := .int (nI k)) (C := RJ9) (T := TJ9) (N := 3) hx hb hts in_J9 hown hK hP 0 rfl rfl 2 (by decide) (hts _ q450) (fun _ h9 => h9) rfl dJ9_isEmpty_1 ?_
  refine N_if_ne (tgt := 11) hx hb dJ9_isEmpty_4 (by decide) (by omega) (fun c_4 => ?_) (fun c_4 => ?_)
  · skip
    refine lv_iconst (v := nI 0) hx hb dJ9_isEmpty_11 (by decide) ?_
    rw [hQQ]
    exact rt_z hx hb hr hlk (by first | exact bI_nar _ | rfl) ((())) dJ9_isEmpty_12 hP hD hS (by first | exact Nat.le_of_ble_eq_true rfl | (simp only [rm_J9_isEmpty]; omega) | omega) (by first | exact Nat.le_of_ble_eq_true rfl | (simp only [rm_J9_isEmpty]; omega) | omega) (by first | exact bI_of1 (decide_eq_true (by omega)) | exact bI_of0 (decide_eq_false (by omega)))
  · skip
    refine lv_iconst (v := nI 1) hx hb dJ9_isEmpty_7 (by decide) ?_
    refine lv_goto (tgt := 12) hx hb dJ9_isEmpty_8 (by decide) ?_
    rw [hQQ]
    exact rt_z hx hb hr hlk (by first | exact bI_nar _ | rfl) ((())) dJ9_isEmpty_12 hP hD hS (by first | exact Nat.le_of_ble_eq_true rfl | (simp only [rm_J9_isEmpty]; omega) | omega) (by first | exact Nat.le_of_ble_eq_true rfl | (simp only [rm_J9_isEmpty]; omega) | omega) (by first | exact bI_of1 (decide_eq_true (by omega)) | exact bI_of0 (decide_eq_false (by omega)))
def rm_J9_grow_2 : Room := ({ frames := 1, cells := 1, slots := 10, locals := 40 } : Room)
set_option maxHeartbeats 400000 in
set_option maxRecDepth 100000 in
theorem t_J9_grow_2 (l : Launch) (G : GG) (b0 sz : Nat) (h k m_ : Nat) (mc : Int32) (hm : m_ ≤ 10) : CT l yJ9_grow_2 cJ9_grow_2 4 (some (FieldType.array (FieldType.object "java/lang/Object"))) (rm_J9_grow_2) G b0 [.ref h, .int (nI m_)] [oX h 11 [.int mc, .ref (G.2.2.1 1), .int (nI k)]] sz (Rr G (fun (u : Nat) => True) (fun (u : Nat) => u) (fun (u : Nat) => [oX h 11 [.int mc, .ref u, .int (nI k)], aO G u 10 (fun _ => none)])) := by
  refine CT.go (by decide) (Nat.le_of_ble_eq_true rfl) (fun p e s m below meth c A ls AR QQ hx hb hr hlk hml hown hnm hts hE hA hAb hsz hP hD hS hl hQQ => ?_)
  have hK := hE.1
  have hown : s.vm.findClass RJ9 = some m.cls := hown
  have hl : lv_has ls 4 [(0, .ref h), (1, .int (nI m_))] := hl
  clear hsz
  refine lv_aload_n hx hb dJ9_grow_2_0 rfl (lv_at hl 0 rfl) ?_
  refine va_get (D := G.1) (ci := 11) (v := .ref (G.2.2.1 1)) (C := RJ9) (T := TJ9) (N := 3) hx hb hts in_J9 hown hK hP 0 rfl rfl 1 (by decide) (hts _ q449) (fun _ h9 => h9) rfl dJ9_grow_2_1 ?_
  refine va_tlen (ty := .object "java/lang/Object") (N := 0) (v := nI 0) hx hb (hE.2.2.2.2.2.2.nar hAb).2.2.2.2.2.2.2.1 hS rfl dJ9_grow_2_4 ?_
  refine lv_istore_n (lv' := [(2, .int (nI 0)), (0, .ref h), (1, .int (nI m_))]) hx hb dJ9_grow_2_5 rfl hl (by decide) rfl (fun ls hl => ?_)
  refine lv_iload_n hx hb dJ9_grow_2_6 rfl (lv_at hl 0 rfl) ?_
  refine N_if_gt (tgt := 20) hx hb dJ9_grow_2_7 (by decide) (by omega) (fun c_7 => ?_) (fun c_7 => ?_)
  · skip
    exfalso; omega
  · skip
    refine lv_aload_n hx hb dJ9_grow_2_10 rfl (lv_at hl 1 rfl) ?_
    refine va_get (D := G.1) (ci := 11) (v := .ref (G.2.2.1 1)) (C := RJ9) (T := TJ9) (N := 3) hx hb hts in_J9 hown hK hP 0 rfl rfl 1 (by decide) (hts _ q449) (fun _ h9 => h9) rfl dJ9_grow_2_11 ?_
    refine va_gets (C := "java/util/ArrayList") (n := "DEFAULTCAPACITY_EMPTY_ELEMENTDATA") (d := "[Ljava/lang/Object;") (ref := "java/util/ArrayList") hx hb (hE.2.2.2.2.2.2.nar hAb).2.2.2.2.2.2.1 hS hown (hts _ q447) (fun _ h_ => h_) dJ9_grow_2_14 ?_
    refine lv_acmp_eq (rx := some (G.2.2.1 1)) (ry := some (G.2.2.1 1)) (tgt := 45) hx hb dJ9_grow_2_17 (by decide) (fun _ => ?_) (fun h9 => absurd rfl h9)
    refine lv_aload_n hx hb dJ9_grow_2_45 rfl (lv_at hl 1 rfl) ?_
    refine lv_bipush (v := nI 10) hx hb dJ9_grow_2_46 (by decide) ?_
    refine lv_iload_n hx hb dJ9_grow_2_48 rfl (lv_at hl 2 rfl) ?_
    refine M_max hx hb (hml.trans hl.1.symm) hown hts q630 q586 q137 q587 (Nat.le_of_ble_eq_true rfl) (Nat.le_of_ble_eq_true rfl) (by first | exact Nat.le_of_ble_eq_true rfl | omega | (simp only [rm_J9_grow_2]; omega)) (by first | exact Nat.le_of_ble_eq_true rfl | omega | (simp only [rm_J9_grow_2]; omega)) dJ9_grow_2_49 ?_
    refine W.eq (g2 := F0 m 52 ls [.int (nI 10), .ref h]) (by rw [max_n (by omega) (by decide)]) ?_
    refine A_newq (t0 := 4) hx hb hown hts q631 hE.2.2.2.1.2 hK hP hD hS hA rfl (by omega) (by omega) (by first | exact Nat.le_of_ble_eq_true rfl | omega) (by first | exact Nat.le_of_ble_eq_true rfl | omega) dJ9_grow_2_52 (fun q1 H hP hD hS => ?_)
    have hP : va_P G.1 vwCl [oX h 11 [.int mc, .ref (G.2.2.1 1), .int (nI k)], aO G q1 10 (fun _ => none)] _ := hP
    have hD : va_D A [oX h 11 [.int mc, .ref (G.2.2.1 1), .int (nI k)], aO G q1 10 (fun _ => none)] := hD
    refine lv_dup_x1 hx hb dJ9_grow_2_55 rfl rfl ?_
    refine va_put (D := G.1) (ci := 11) (v := .ref q1) (ty := (.array (.object "java/lang/Object"))) (C := RJ9) (T := TJ9) (N := 3) hx hb hts in_J9 tyJ9 tyJ9_ok nmJ9 hown hK hP hD hS 0 rfl rfl 1 (by decide) (hts _ q449) (fun _ h9 => h9) rfl (by decide +kernel) rfl rfl (Nat.le_of_ble_eq_true rfl) dJ9_grow_2_56 (fun H locs hP hD hS => ?_)
    have hP : va_P G.1 vwCl [oX h 11 [.int mc, .ref q1, .int (nI k)], aO G q1 10 (fun _ => none)] _ := hP
    have hD : va_D A [oX h 11 [.int mc, .ref q1, .int (nI k)], aO G q1 10 (fun _ => none)] := hD
    have hP : va_P G.1 vwCl [oX h 11 [.int mc, .ref q1, .int (nI k)], aO G q1 10 (fun _ => none)] _ := hP
    have hD : va_D A [oX h 11 [.int mc, .ref q1, .int (nI k)], aO G q1 10 (fun _ => none)] := hD
    rw [hQQ]
    exact rt_r hx hb hr hlk (by first | exact Or.inl ⟨_, rfl⟩ | exact Or.inr ⟨_, rfl⟩) q1 dJ9_grow_2_59 hP hD hS (by first | exact Nat.le_of_ble_eq_true rfl | (simp only [rm_J9_grow_2]; omega) | omega) (by first | exact Nat.le_of_ble_eq_true rfl | (simp only [rm_J9_grow_2]; omega) | omega) (by rfl) trivial
def rm_J9_grow : Room := ({ frames := 2, cells := 1, slots := 10, locals := 70 } : Room)
set_option maxHeartbeats 400000 in
set_option maxRecDepth 100000 in
theorem t_J9_grow (l : Launch) (G : GG) (b0 sz : Nat) (h k : Nat) (mc : Int32) (hk : k ≤ 9) : CT l yJ9_grow cJ9_grow 1 (some (FieldType.array (FieldType.object "java/lang/Object"))) (rm_J9_grow) G b0 [.ref h] [oX h 11 [.int mc, .ref (G.2.2.1 1), .int (nI k)]] sz (Rr G (fun (u : Nat) => True) (fun (u : Nat) => u) (fun (u : Nat) => [oX h 11 [.int mc, .ref u, .int (nI k)], aO G u 10 (fun _ => none)])) := by
  refine CT.go (by decide) (Nat.le_of_ble_eq_true rfl) (fun p e s m below meth c A ls AR QQ hx hb hr hlk hml hown hnm hts hE hA hAb hsz hP hD hS hl hQQ => ?_)
  have hK := hE.1
  have hown : s.vm.findClass RJ9 = some m.cls := hown
  have hl : lv_has ls 1 [(0, .ref h)] := hl
  clear hsz
  refine lv_aload_n hx hb dJ9_grow_0 rfl (lv_at hl 0 rfl) ?_
  refine lv_aload_n hx hb dJ9_grow_1 rfl (lv_at hl 0 rfl) ?_
  refine va_get (D := G.1) (ci := 11) (v := .int (nI k)) (C := RJ9) (T := TJ9) (N := 3) hx hb hts in_J9 hown hK hP 0 rfl rfl 2 (by decide) (hts _ q450) (fun _ h9 => h9) rfl dJ9_grow_2 ?_
  refine lv_iconst (v := nI 1) hx hb dJ9_grow_5 (by decide) ?_
  refine N_iadd hx hb dJ9_grow_6 ?_
  refine fin_r (ws' := (fun (u_1 : Nat) => [oX h 11 [.int mc, .ref u_1, .int (nI k)], aO G u_1 10 (fun _ => none)])) hA hS hP hD [0] rfl [(true, 0), (true, 1)] (fun _ => rfl) (by decide) (run_V (As := [.int (nI (k + 1))]) (rest := []) (n9 := 1) hx hb hml hown hts hE hAb hl.1 hS hP hD [0] rfl (by decide) (t_J9_grow_2 l G b0 _ h k (k + 1) mc (by omega)) (lw_V q578 q580 qs8 q124 q581) 0 rfl rfl ⟨rfl, by decide, by decide, by decide +kernel⟩ ⟨Nat.le_of_ble_eq_true rfl, Nat.le_of_ble_eq_true rfl⟩ ⟨by first | exact Nat.le_of_ble_eq_true rfl | (simp only [rm_J9_grow, rm_J9_grow_2]; omega), by first | exact Nat.le_of_ble_eq_true rfl | (simp only [rm_J9_grow, rm_J9_grow_2]; omega)⟩ dJ9_grow_7 (Nat.le_of_ble_eq_true rfl) rfl rfl) (fun u_1 H locs h_1 hP hD hS => ?_)
  have hP : va_P G.1 vwCl [oX h 11 [.int mc, .ref u_1, .int (nI k)], aO G u_1 10 (fun _ => none)] _ := hP
  have hD : va_D A [oX h 11 [.int mc, .ref u_1, .int (nI k)], aO G u_1 10 (fun _ => none)] := hD
  refine W.eq (g2 := F0 m 10 ls [.ref u_1]) rfl ?_
  rw [hQQ]
  exact rt_r hx hb hr hlk (by first | exact Or.inl ⟨_, rfl⟩ | exact Or.inr ⟨_, rfl⟩) u_1 dJ9_grow_10 hP hD hS (by first | exact Nat.le_of_ble_eq_true rfl | (simp only [rm_J9_grow, rm_J9_grow_2]; omega) | omega) (by first | exact Nat.le_of_ble_eq_true rfl | (simp only [rm_J9_grow, rm_J9_grow_2]; omega) | omega) (by rfl) trivial
def rm_J9_add_2_v : Room := ({ frames := 3, cells := 1, slots := 10, locals := 100 } : Room)
set_option maxHeartbeats 400000 in
set_option maxRecDepth 100000 in
theorem t_J9_add_2_v (l : Launch) (G : GG) (b0 sz : Nat) (h : Nat) (mc : Int32) (x x1 xL : Nat) (xs xw : Int32) : CT l yJ9_add_2 cJ9_add_2 4 none (rm_J9_add_2_v) G b0 [.ref h, .ref x, .ref (G.2.2.1 1), .int (nI 0)] [oX h 11 [.int mc, .ref (G.2.2.1 1), .int (nI 0)], oX x 1 [.ref x1, .int (nI xL), .int xs, .int xw]] sz (Rv G (fun (u : Nat) => True) (fun (u : Nat) => [oX h 11 [.int mc, .ref u, .int (nI 1)], oX x 1 [.ref x1, .int (nI xL), .int xs, .int xw], aO G u 10 (va_up (fun _ => none) 0 (some x))])) := by
  refine CT.go (by decide) (Nat.le_of_ble_eq_true rfl) (fun p e s m below meth c A ls AR QQ hx hb hr hlk hml hown hnm hts hE hA hAb hsz hP hD hS hl hQQ => ?_)
  have hK := hE.1
  have hown : s.vm.findClass RJ9 = some m.cls := hown
  have hl : lv_has ls 4 [(0, .ref h), (1, .ref x), (2, .ref (G.2.2.1 1)), (3, .int (nI 0))] := hl
  clear hsz
  refine lv_iload_n hx hb dJ9_add_2_0 rfl (lv_at hl 3 rfl) ?_
  refine lv_aload_n hx hb dJ9_add_2_1 rfl (lv_at hl 2 rfl) ?_
  refine va_tlen (ty := .object "java/lang/Object") (N := 0) (v := nI 0) hx hb (hE.2.2.2.2.2.2.nar hAb).2.2.2.2.2.2.2.1 hS rfl dJ9_add_2_2 ?_
  refine N_icmp_ne (tgt := 11) hx hb dJ9_add_2_3 (by decide) (by omega) (by omega) (fun c_3 => ?_) (fun c_3 => ?_)
  · skip
    exfalso; omega
  · skip
    refine lv_aload_n hx hb dJ9_add_2_6 rfl (lv_at hl 0 rfl) ?_
    refine fin_r (ws' := (fun (u_1 : Nat) => [oX h 11 [.int mc, .ref u_1, .int (nI 0)], oX x 1 [.ref x1, .int (nI xL), .int xs, .int xw], aO G u_1 10 (fun _ => none)])) hA hS hP hD [0] rfl [(true, 0), (false, 1), (true, 1)] (fun _ => rfl) (by decide) (run_V (As := []) (rest := []) (n9 := 0) hx hb hml hown hts hE hAb hl.1 hS hP hD [0] rfl (by decide) (t_J9_grow l G b0 _ h 0 mc (by omega)) (lw_V q574 q576 qs7 q124 q577) 0 rfl rfl ⟨rfl, by decide, by decide, by decide +kernel⟩ ⟨Nat.le_of_ble_eq_true rfl, Nat.le_of_ble_eq_true rfl⟩ ⟨by first | exact Nat.le_of_ble_eq_true rfl | (simp only [rm_J9_add_2_v, rm_J9_grow]; omega), by first | exact Nat.le_of_ble_eq_true rfl | (simp only [rm_J9_add_2_v, rm_J9_grow]; omega)⟩ dJ9_add_2_7 (Nat.le_of_ble_eq_true rfl) rfl rfl) (fun u_1 H locs h_1 hP hD hS => ?_)
    have hP : va_P G.1 vwCl [oX h 11 [.int mc, .ref u_1, .int (nI 0)], oX x 1 [.ref x1, .int (nI xL), .int xs, .int xw], aO G u_1 10 (fun _ => none)] _ := hP
    have hD : va_D A [oX h 11 [.int mc, .ref u_1, .int (nI 0)], oX x 1 [.ref x1, .int (nI xL), .int xs, .int xw], aO G u_1 10 (fun _ => none)] := hD
    refine W.eq (g2 := F0 m 10 ls [.ref u_1]) rfl ?_
    refine lv_astore_n (lv' := [(2, .ref u_1), (0, .ref h), (1, .ref x), (3, .int (nI 0))]) hx hb dJ9_add_2_10 rfl hl (by decide) rfl (fun ls hl => ?_)
    refine lv_aload_n hx hb dJ9_add_2_11 rfl (lv_at hl 0 rfl) ?_
    refine lv_iload_n hx hb dJ9_add_2_12 rfl (lv_at hl 3 rfl) ?_
    refine lv_aload_n hx hb dJ9_add_2_13 rfl (lv_at hl 2 rfl) ?_
    refine va_astqO (E := "java/lang/Object") hx hb hK hP hD hS 2 4 1 1 rfl rfl (hE.2.2.1 _ q2154 rfl) rfl rfl (vp_in_nI (by omega) (by omega)) dJ9_add_2_14 (fun H locs hP hD hS => ?_)
    have hP : va_P G.1 vwCl [oX h 11 [.int mc, .ref u_1, .int (nI 0)], oX x 1 [.ref x1, .int (nI xL), .int xs, .int xw], aO G u_1 10 (va_up (fun _ => none) 0 (some x))] H := by rw [nI_clamp (show 0 < 2147483648 by omega)] at hP; exact hP
    have hD : va_D A [oX h 11 [.int mc, .ref u_1, .int (nI 0)], oX x 1 [.ref x1, .int (nI xL), .int xs, .int xw], aO G u_1 10 (va_up (fun _ => none) 0 (some x))] := by rw [nI_clamp (show 0 < 2147483648 by omega)] at hD; exact hD
    refine lv_aload_n hx hb dJ9_add_2_15 rfl (lv_at hl 1 rfl) ?_
    refine lv_iload_n hx hb dJ9_add_2_16 rfl (lv_at hl 3 rfl) ?_
    refine lv_iconst (v := nI 1) hx hb dJ9_add_2_17 (by decide) ?_
    refine N_iadd hx hb dJ9_add_2_18 ?_
    refine va_put (D := G.1) (ci := 11) (v := .int (nI 1)) (ty := .int) (C := RJ9) (T := TJ9) (N := 3) hx hb hts in_J9 tyJ9 tyJ9_ok nmJ9 hown hK hP hD hS 0 rfl rfl 2 (by decide) (hts _ q450) (fun _ h9 => h9) rfl (by decide +kernel) rfl rfl (Nat.le_of_ble_eq_true rfl) dJ9_add_2_19 (fun H locs hP hD hS => ?_)
    have hP : va_P G.1 vwCl [oX h 11 [.int mc, .ref u_1, .int (nI 1)], oX x 1 [.ref x1, .int (nI xL), .int xs, .int xw], aO G u_1 10 (va_up (fun _ => none) 0 (some x))] _ := hP
    have hD : va_D A [oX h 11 [.int mc, .ref u_1, .int (nI 1)], oX x 1 [.ref x1, .int (nI xL), .int xs, .int xw], aO G u_1 10 (va_up (fun _ => none) 0 (some x))] := hD
    rw [hQQ]
    exact rt_v hx hb hr hlk u_1 dJ9_add_2_22 hP hD hS (by first | exact Nat.le_of_ble_eq_true rfl | (simp only [rm_J9_add_2_v, rm_J9_grow]; omega) | omega) (by first | exact Nat.le_of_ble_eq_true rfl | (simp only [rm_J9_add_2_v, rm_J9_grow]; omega) | omega) trivial
def rm_J9_add_2_0 : Room := ({ frames := 3, cells := 0, slots := 0, locals := 100 } : Room)
set_option maxHeartbeats 400000 in
set_option maxRecDepth 100000 in
theorem t_J9_add_2_0 (l : Launch) (G : GG) (b0 sz : Nat) (h ea k : Nat) (mc : Int32) (ef : Nat → Option Nat) (x x1 xL : Nat) (xs xw : Int32) (hk : k < 10) : CT l yJ9_add_2 cJ9_add_2 4 none (rm_J9_add_2_0) G b0 [.ref h, .ref x, .ref ea, .int (nI k)] [oX h 11 [.int mc, .ref ea, .int (nI k)], aO G ea 10 ef, oX x 1 [.ref x1, .int (nI xL), .int xs, .int xw]] sz (Rv G (fun (_ : Unit) => True) (fun (_ : Unit) => [oX h 11 [.int mc, .ref ea, .int (nI (k + 1))], aO G ea 10 (va_up ef k (some x)), oX x 1 [.ref x1, .int (nI xL), .int xs, .int xw]])) := by
  refine CT.go (by decide) (Nat.le_of_ble_eq_true rfl) (fun p e s m below meth c A ls AR QQ hx hb hr hlk hml hown hnm hts hE hA hAb hsz hP hD hS hl hQQ => ?_)
  have hK := hE.1
  have hown : s.vm.findClass RJ9 = some m.cls := hown
  have hl : lv_has ls 4 [(0, .ref h), (1, .ref x), (2, .ref ea), (3, .int (nI k))] := hl
  clear hsz
  refine lv_iload_n hx hb dJ9_add_2_0 rfl (lv_at hl 3 rfl) ?_
  refine lv_aload_n hx hb dJ9_add_2_1 rfl (lv_at hl 2 rfl) ?_
  refine va_alen (v := nI 10) hx hb hK hP 1 4 rfl rfl rfl dJ9_add_2_2 ?_
  refine N_icmp_ne (tgt := 11) hx hb dJ9_add_2_3 (by decide) (by omega) (by omega) (fun c_3 => ?_) (fun c_3 => ?_)
  · skip
    refine lv_aload_n hx hb dJ9_add_2_11 rfl (lv_at hl 2 rfl) ?_
    refine lv_iload_n hx hb dJ9_add_2_12 rfl (lv_at hl 3 rfl) ?_
    refine lv_aload_n hx hb dJ9_add_2_13 rfl (lv_at hl 1 rfl) ?_
    refine va_astqO (E := "java/lang/Object") hx hb hK hP hD hS 1 4 2 1 rfl rfl (hE.2.2.1 _ q2154 rfl) rfl rfl (vp_in_nI (by omega) (by omega)) dJ9_add_2_14 (fun H locs hP hD hS => ?_)
    have hP : va_P G.1 vwCl [oX h 11 [.int mc, .ref ea, .int (nI k)], aO G ea 10 (va_up ef k (some x)), oX x 1 [.ref x1, .int (nI xL), .int xs, .int xw]] H := by rw [nI_clamp (show k < 2147483648 by omega)] at hP; exact hP
    have hD : va_D A [oX h 11 [.int mc, .ref ea, .int (nI k)], aO G ea 10 (va_up ef k (some x)), oX x 1 [.ref x1, .int (nI xL), .int xs, .int xw]] := by rw [nI_clamp (show k < 2147483648 by omega)] at hD; exact hD
    refine lv_aload_n hx hb dJ9_add_2_15 rfl (lv_at hl 0 rfl) ?_
    refine lv_iload_n hx hb dJ9_add_2_16 rfl (lv_at hl 3 rfl) ?_
    refine lv_iconst (v := nI 1) hx hb dJ9_add_2_17 (by decide) ?_
    refine N_iadd hx hb dJ9_add_2_18 ?_
    refine va_put (D := G.1) (ci := 11) (v := .int (nI (k + 1))) (ty := .int) (C := RJ9) (T := TJ9) (N := 3) hx hb hts in_J9 tyJ9 tyJ9_ok nmJ9 hown hK hP hD hS 0 rfl rfl 2 (by decide) (hts _ q450) (fun _ h9 => h9) rfl (by decide +kernel) rfl rfl (Nat.le_of_ble_eq_true rfl) dJ9_add_2_19 (fun H locs hP hD hS => ?_)
    have hP : va_P G.1 vwCl [oX h 11 [.int mc, .ref ea, .int (nI (k + 1))], aO G ea 10 (va_up ef k (some x)), oX x 1 [.ref x1, .int (nI xL), .int xs, .int xw]] _ := hP
    have hD : va_D A [oX h 11 [.int mc, .ref ea, .int (nI (k + 1))], aO G ea 10 (va_up ef k (some x)), oX x 1 [.ref x1, .int (nI xL), .int xs, .int xw]] := hD
    rw [hQQ]
    exact rt_v hx hb hr hlk ((())) dJ9_add_2_22 hP hD hS (by first | exact Nat.le_of_ble_eq_true rfl | (simp only [rm_J9_add_2_0]; omega) | omega) (by first | exact Nat.le_of_ble_eq_true rfl | (simp only [rm_J9_add_2_0]; omega) | omega) trivial
  · skip
    exfalso; omega
def rm_J9_add_v : Room := ({ frames := 4, cells := 1, slots := 10, locals := 130 } : Room)
set_option maxHeartbeats 400000 in
set_option maxRecDepth 100000 in
theorem t_J9_add_v (l : Launch) (G : GG) (b0 sz : Nat) (h : Nat) (mc : Int32) (x x1 xL : Nat) (xs xw : Int32) : CT l yJ9_add cJ9_add 2 (some FieldType.boolean) (rm_J9_add_v) G b0 [.ref h, .ref x] [oX h 11 [.int mc, .ref (G.2.2.1 1), .int (nI 0)], oX x 1 [.ref x1, .int (nI xL), .int xs, .int xw]] sz (Ri G (fun (r_ : Int32) (u : Nat) => r_ = bI true) (fun (u : Nat) => [oX h 11 [.int (mc + nI 1), .ref u, .int (nI 1)], oX x 1 [.ref x1, .int (nI xL), .int xs, .int xw], aO G u 10 (va_up (fun _ => none) 0 (some x))])) := by
  refine CT.go (by decide) (Nat.le_of_ble_eq_true rfl) (fun p e s m below meth c A ls AR QQ hx hb hr hlk hml hown hnm hts hE hA hAb hsz hP hD hS hl hQQ => ?_)
  have hK := hE.1
  have hown : s.vm.findClass RJ9 = some m.cls := hown
  have hl : lv_has ls 2 [(0, .ref h), (1, .ref x)] := hl
  clear hsz
  refine lv_aload_n hx hb dJ9_add_0 rfl (lv_at hl 0 rfl) ?_
  refine lv_dup hx hb dJ9_add_1 rfl ?_
  refine va_get (D := G.1) (ci := 11) (v := .int mc) (C := RJ9) (T := TJ9) (N := 3) hx hb hts in_J9 hown hK hP 0 rfl rfl 0 (by decide) (hts _ q452) (u_same (hts _ q453)) rfl dJ9_add_2 ?_
  refine lv_iconst (v := nI 1) hx hb dJ9_add_5 (by decide) ?_
  refine lv_iadd hx hb dJ9_add_6 ?_
  refine va_put (D := G.1) (ci := 11) (v := .int (mc + (nI 1))) (ty := .int) (C := RJ9) (T := TJ9) (N := 3) hx hb hts in_J9 tyJ9 tyJ9_ok nmJ9 hown hK hP hD hS 0 rfl rfl 0 (by decide) (hts _ q452) (u_same (hts _ q453)) rfl (by decide +kernel) rfl rfl (Nat.le_of_ble_eq_true rfl) dJ9_add_7 (fun H locs hP hD hS => ?_)
  have hP : va_P G.1 vwCl [oX h 11 [.int (mc + (nI 1)), .ref (G.2.2.1 1), .int (nI 0)], oX x 1 [.ref x1, .int (nI xL), .int xs, .int xw]] _ := hP
  have hD : va_D A [oX h 11 [.int (mc + (nI 1)), .ref (G.2.2.1 1), .int (nI 0)], oX x 1 [.ref x1, .int (nI xL), .int xs, .int xw]] := hD
  refine lv_aload_n hx hb dJ9_add_10 rfl (lv_at hl 0 rfl) ?_
  refine lv_aload_n hx hb dJ9_add_11 rfl (lv_at hl 1 rfl) ?_
  refine lv_aload_n hx hb dJ9_add_12 rfl (lv_at hl 0 rfl) ?_
  refine va_get (D := G.1) (ci := 11) (v := .ref (G.2.2.1 1)) (C := RJ9) (T := TJ9) (N := 3) hx hb hts in_J9 hown hK hP 0 rfl rfl 1 (by decide) (hts _ q449) (fun _ h9 => h9) rfl dJ9_add_13 ?_
  refine lv_aload_n hx hb dJ9_add_16 rfl (lv_at hl 0 rfl) ?_
  refine va_get (D := G.1) (ci := 11) (v := .int (nI 0)) (C := RJ9) (T := TJ9) (N := 3) hx hb hts in_J9 hown hK hP 0 rfl rfl 2 (by decide) (hts _ q450) (fun _ h9 => h9) rfl dJ9_add_17 ?_
  refine fin_v (ws' := (fun (u_1 : Nat) => [oX h 11 [.int (mc + (nI 1)), .ref u_1, .int (nI 1)], oX x 1 [.ref x1, .int (nI xL), .int xs, .int xw], aO G u_1 10 (va_up (fun _ => none) 0 (some x))])) hA hS hP hD [0, 1] rfl [(true, 0), (true, 1), (true, 2)] (fun _ => rfl) (by decide) (run_V (As := [.ref x, .ref (G.2.2.1 1), .int (nI 0)]) (rest := []) (n9 := 3) hx hb hml hown hts hE hAb hl.1 hS hP hD [0, 1] rfl (by decide) (t_J9_add_2_v l G b0 _ h (mc + (nI 1)) x x1 xL xs xw ) (lw_V q570 q572 qs6 q124 q573) 0 rfl rfl ⟨rfl, by decide, by decide, by decide +kernel⟩ ⟨Nat.le_of_ble_eq_true rfl, Nat.le_of_ble_eq_true rfl⟩ ⟨by first | exact Nat.le_of_ble_eq_true rfl | (simp only [rm_J9_add_v, rm_J9_add_2_v]; omega), by first | exact Nat.le_of_ble_eq_true rfl | (simp only [rm_J9_add_v, rm_J9_add_2_v]; omega)⟩ dJ9_add_20 (Nat.le_of_ble_eq_true rfl) rfl rfl) (fun u_1 H locs h_1 hP hD hS => ?_)
  have hP : va_P G.1 vwCl [oX h 11 [.int (mc + (nI 1)), .ref u_1, .int (nI 1)], oX x 1 [.ref x1, .int (nI xL), .int xs, .int xw], aO G u_1 10 (va_up (fun _ => none) 0 (some x))] _ := hP
  have hD : va_D A [oX h 11 [.int (mc + (nI 1)), .ref u_1, .int (nI 1)], oX x 1 [.ref x1, .int (nI xL), .int xs, .int xw], aO G u_1 10 (va_up (fun _ => none) 0 (some x))] := hD
  refine lv_iconst (v := nI 1) hx hb dJ9_add_23 (by decide) ?_
  have hP : va_P G.1 vwCl [oX h 11 [.int (mc + nI 1), .ref u_1, .int (nI 1)], oX x 1 [.ref x1, .int (nI xL), .int xs, .int xw], aO G u_1 10 (va_up (fun _ => none) 0 (some x))] _ := hP
  have hD : va_D A [oX h 11 [.int (mc + nI 1), .ref u_1, .int (nI 1)], oX x 1 [.ref x1, .int (nI xL), .int xs, .int xw], aO G u_1 10 (va_up (fun _ => none) 0 (some x))] := hD
  rw [hQQ]
  exact rt_z hx hb hr hlk (by first | exact bI_nar _ | rfl) u_1 dJ9_add_24 hP hD hS (by first | exact Nat.le_of_ble_eq_true rfl | (simp only [rm_J9_add_v, rm_J9_add_2_v]; omega) | omega) (by first | exact Nat.le_of_ble_eq_true rfl | (simp only [rm_J9_add_v, rm_J9_add_2_v]; omega) | omega) (by rfl)
def rm_J9_add_0 : Room := ({ frames := 4, cells := 0, slots := 0, locals := 130 } : Room)
set_option maxHeartbeats 400000 in
set_option maxRecDepth 100000 in
theorem t_J9_add_0 (l : Launch) (G : GG) (b0 sz : Nat) (h ea k : Nat) (mc : Int32) (ef : Nat → Option Nat) (x x1 xL : Nat) (xs xw : Int32) (hk : k < 10) : CT l yJ9_add cJ9_add 2 (some FieldType.boolean) (rm_J9_add_0) G b0 [.ref h, .ref x] [oX h 11 [.int mc, .ref ea, .int (nI k)], aO G ea 10 ef, oX x 1 [.ref x1, .int (nI xL), .int xs, .int xw]] sz (Ri G (fun (r_ : Int32) (_ : Unit) => r_ = bI true) (fun (_ : Unit) => [oX h 11 [.int (mc + nI 1), .ref ea, .int (nI (k + 1))], aO G ea 10 (va_up ef k (some x)), oX x 1 [.ref x1, .int (nI xL), .int xs, .int xw]])) := by
  refine CT.go (by decide) (Nat.le_of_ble_eq_true rfl) (fun p e s m below meth c A ls AR QQ hx hb hr hlk hml hown hnm hts hE hA hAb hsz hP hD hS hl hQQ => ?_)
  have hK := hE.1
  have hown : s.vm.findClass RJ9 = some m.cls := hown
  have hl : lv_has ls 2 [(0, .ref h), (1, .ref x)] := hl
  clear hsz
  refine lv_aload_n hx hb dJ9_add_0 rfl (lv_at hl 0 rfl) ?_
  refine lv_dup hx hb dJ9_add_1 rfl ?_
  refine va_get (D := G.1) (ci := 11) (v := .int mc) (C := RJ9) (T := TJ9) (N := 3) hx hb hts in_J9 hown hK hP 0 rfl rfl 0 (by decide) (hts _ q452) (u_same (hts _ q453)) rfl dJ9_add_2 ?_
  refine lv_iconst (v := nI 1) hx hb dJ9_add_5 (by decide) ?_
  refine lv_iadd hx hb dJ9_add_6 ?_
  refine va_put (D := G.1) (ci := 11) (v := .int (mc + (nI 1))) (ty := .int) (C := RJ9) (T := TJ9) (N := 3) hx hb hts in_J9 tyJ9 tyJ9_ok nmJ9 hown hK hP hD hS 0 rfl rfl 0 (by decide) (hts _ q452) (u_same (hts _ q453)) rfl (by decide +kernel) rfl rfl (Nat.le_of_ble_eq_true rfl) dJ9_add_7 (fun H locs hP hD hS => ?_)
  have hP : va_P G.1 vwCl [oX h 11 [.int (mc + (nI 1)), .ref ea, .int (nI k)], aO G ea 10 ef, oX x 1 [.ref x1, .int (nI xL), .int xs, .int xw]] _ := hP
  have hD : va_D A [oX h 11 [.int (mc + (nI 1)), .ref ea, .int (nI k)], aO G ea 10 ef, oX x 1 [.ref x1, .int (nI xL), .int xs, .int xw]] := hD
  refine lv_aload_n hx hb dJ9_add_10 rfl (lv_at hl 0 rfl) ?_
  refine lv_aload_n hx hb dJ9_add_11 rfl (lv_at hl 1 rfl) ?_
  refine lv_aload_n hx hb dJ9_add_12 rfl (lv_at hl 0 rfl) ?_
  refine va_get (D := G.1) (ci := 11) (v := .ref ea) (C := RJ9) (T := TJ9) (N := 3) hx hb hts in_J9 hown hK hP 0 rfl rfl 1 (by decide) (hts _ q449) (fun _ h9 => h9) rfl dJ9_add_13 ?_
  refine lv_aload_n hx hb dJ9_add_16 rfl (lv_at hl 0 rfl) ?_
  refine va_get (D := G.1) (ci := 11) (v := .int (nI k)) (C := RJ9) (T := TJ9) (N := 3) hx hb hts in_J9 hown hK hP 0 rfl rfl 2 (by decide) (hts _ q450) (fun _ h9 => h9) rfl dJ9_add_17 ?_
  refine fin_v (ws' := (fun (_ : Unit) => [oX h 11 [.int (mc + (nI 1)), .ref ea, .int (nI (k + 1))], aO G ea 10 (va_up ef k (some x)), oX x 1 [.ref x1, .int (nI xL), .int xs, .int xw]])) hA hS hP hD [0, 1, 2] rfl [(true, 0), (true, 1), (true, 2)] (fun _ => rfl) (by decide) (run_V (As := [.ref x, .ref ea, .int (nI k)]) (rest := []) (n9 := 3) hx hb hml hown hts hE hAb hl.1 hS hP hD [0, 1, 2] rfl (by decide) (t_J9_add_2_0 l G b0 _ h ea k (mc + (nI 1)) ef x x1 xL xs xw (by omega)) (lw_V q570 q572 qs6 q124 q573) 0 rfl rfl ⟨rfl, by decide, by decide, by decide +kernel⟩ ⟨Nat.le_of_ble_eq_true rfl, Nat.le_of_ble_eq_true rfl⟩ ⟨by first | exact Nat.le_of_ble_eq_true rfl | (simp only [rm_J9_add_0, rm_J9_add_2_0]; omega), by first | exact Nat.le_of_ble_eq_true rfl | (simp only [rm_J9_add_0, rm_J9_add_2_0]; omega)⟩ dJ9_add_20 (Nat.le_of_ble_eq_true rfl) rfl rfl) (fun u_1 H locs h_1 hP hD hS => ?_)
  have hP : va_P G.1 vwCl [oX h 11 [.int (mc + (nI 1)), .ref ea, .int (nI (k + 1))], aO G ea 10 (va_up ef k (some x)), oX x 1 [.ref x1, .int (nI xL), .int xs, .int xw]] _ := hP
  have hD : va_D A [oX h 11 [.int (mc + (nI 1)), .ref ea, .int (nI (k + 1))], aO G ea 10 (va_up ef k (some x)), oX x 1 [.ref x1, .int (nI xL), .int xs, .int xw]] := hD
  refine lv_iconst (v := nI 1) hx hb dJ9_add_23 (by decide) ?_
  have hP : va_P G.1 vwCl [oX h 11 [.int (mc + nI 1), .ref ea, .int (nI (k + 1))], aO G ea 10 (va_up ef k (some x)), oX x 1 [.ref x1, .int (nI xL), .int xs, .int xw]] _ := hP
  have hD : va_D A [oX h 11 [.int (mc + nI 1), .ref ea, .int (nI (k + 1))], aO G ea 10 (va_up ef k (some x)), oX x 1 [.ref x1, .int (nI xL), .int xs, .int xw]] := hD
  rw [hQQ]
  exact rt_z hx hb hr hlk (by first | exact bI_nar _ | rfl) ((())) dJ9_add_24 hP hD hS (by first | exact Nat.le_of_ble_eq_true rfl | (simp only [rm_J9_add_0, rm_J9_add_2_0]; omega) | omega) (by first | exact Nat.le_of_ble_eq_true rfl | (simp only [rm_J9_add_0, rm_J9_add_2_0]; omega) | omega) (by rfl)
def rm_J9_fastRemove_f : Room := ({ frames := 1, cells := 0, slots := 0, locals := 60 } : Room)
set_option maxHeartbeats 400000 in
set_option maxRecDepth 100000 in
theorem t_J9_fastRemove_f (l : Launch) (G : GG) (b0 sz : Nat) (h ea k : Nat) (mc : Int32) (ef : Nat → Option Nat) (T : va_W) (hk2 : 2 ≤ k) (hk : k ≤ 10) (hT : ∀ i y, ef i = some y → ∃ (j : Nat) (vs : List Value), T[j]? = some (y, .inr (1, vs))) : CT l yJ9_fastRemove cJ9_fastRemove 4 none (rm_J9_fastRemove_f) G b0 [.ref h, .ref ea, .int (nI 0)] ([oX h 11 [.int mc, .ref ea, .int (nI k)], aO G ea 10 ef] ++ T) sz (Rv G (fun (_ : Unit) => True) (fun (_ : Unit) => ([oX h 11 [.int (mc + nI 1), .ref ea, .int (nI (k - 1))], aO G ea 10 (va_up (va_cpy ef ef 1 0 (k - 1 - 0)) (k - 1) none)] ++ T))) := by
  refine CT.go (by decide) (Nat.le_of_ble_eq_true rfl) (fun p e s m below meth c A ls AR QQ hx hb hr hlk hml hown hnm hts hE hA hAb hsz hP hD hS hl hQQ => ?_)
  have hK := hE.1
  have hown : s.vm.findClass RJ9 = some m.cls := hown
  have hl : lv_has ls 4 [(0, .ref h), (1, .ref ea), (2, .int (nI 0))] := hl
  clear hsz
  refine lv_aload_n hx hb dJ9_fastRemove_0 rfl (lv_at hl 0 rfl) ?_
  refine lv_dup hx hb dJ9_fastRemove_1 rfl ?_
  refine va_get (D := G.1) (ci := 11) (v := .int mc) (C := RJ9) (T := TJ9) (N := 3) hx hb hts in_J9 hown hK hP 0 rfl rfl 0 (by decide) (hts _ q452) (u_same (hts _ q453)) rfl dJ9_fastRemove_2 ?_
  refine lv_iconst (v := nI 1) hx hb dJ9_fastRemove_5 (by decide) ?_
  refine lv_iadd hx hb dJ9_fastRemove_6 ?_
  refine va_put (D := G.1) (ci := 11) (v := .int (mc + (nI 1))) (ty := .int) (C := RJ9) (T := TJ9) (N := 3) hx hb hts in_J9 tyJ9 tyJ9_ok nmJ9 hown hK hP hD hS 0 rfl rfl 0 (by decide) (hts _ q452) (u_same (hts _ q453)) rfl (by decide +kernel) rfl rfl (Nat.le_of_ble_eq_true rfl) dJ9_fastRemove_7 (fun H locs hP hD hS => ?_)
  have hP : va_P G.1 vwCl ([oX h 11 [.int (mc + (nI 1)), .ref ea, .int (nI k)], aO G ea 10 ef] ++ T) _ := hP
  have hD : va_D A ([oX h 11 [.int (mc + (nI 1)), .ref ea, .int (nI k)], aO G ea 10 ef] ++ T) := hD
  refine lv_aload_n hx hb dJ9_fastRemove_10 rfl (lv_at hl 0 rfl) ?_
  refine va_get (D := G.1) (ci := 11) (v := .int (nI k)) (C := RJ9) (T := TJ9) (N := 3) hx hb hts in_J9 hown hK hP 0 rfl rfl 2 (by decide) (hts _ q450) (fun _ h9 => h9) rfl dJ9_fastRemove_11 ?_
  refine lv_iconst (v := nI 1) hx hb dJ9_fastRemove_14 (by decide) ?_
  refine N_isub hx hb dJ9_fastRemove_15 (by omega) ?_
  refine lv_dup hx hb dJ9_fastRemove_16 rfl ?_
  refine lv_istore_n (lv' := [(3, .int (nI (k - 1))), (0, .ref h), (1, .ref ea), (2, .int (nI 0))]) hx hb dJ9_fastRemove_17 rfl hl (by decide) rfl (fun ls hl => ?_)
  refine lv_iload_n hx hb dJ9_fastRemove_18 rfl (lv_at hl 3 rfl) ?_
  refine N_icmp_le (tgt := 34) hx hb dJ9_fastRemove_19 (by decide) (by omega) (by omega) (fun c_19 => ?_) (fun c_19 => ?_)
  · skip
    exfalso; omega
  · skip
    refine lv_aload_n hx hb dJ9_fastRemove_22 rfl (lv_at hl 2 rfl) ?_
    refine lv_iload_n hx hb dJ9_fastRemove_23 rfl (lv_at hl 3 rfl) ?_
    refine lv_iconst (v := nI 1) hx hb dJ9_fastRemove_24 (by decide) ?_
    refine N_iadd hx hb dJ9_fastRemove_25 ?_
    refine lv_aload_n hx hb dJ9_fastRemove_26 rfl (lv_at hl 2 rfl) ?_
    refine lv_iload_n hx hb dJ9_fastRemove_27 rfl (lv_at hl 3 rfl) ?_
    refine lv_iload_n hx hb dJ9_fastRemove_28 rfl (lv_at hl 0 rfl) ?_
    refine lv_iload_n hx hb dJ9_fastRemove_29 rfl (lv_at hl 3 rfl) ?_
    refine N_isub hx hb dJ9_fastRemove_30 (by omega) ?_
    refine va_copyq (C := "CrumbPictures$Sheet") (E0 := "java/lang/Object") (E1 := "java/lang/Object") hx hb (hml.trans hl.1.symm) hown (hts _ q558) (hts _ q560) (hts _ q559) (hts _ q135) hK hP hD hS 1 1 4 4 rfl rfl rfl rfl (nI_pos (by omega)) (nI_pos (by omega)) (nI_pos (by omega)) (by rw [nI_clamp (show 1 < 2147483648 by omega), nI_clamp (show (k - 1) - 0 < 2147483648 by omega)]; omega) (by rw [nI_clamp (show 0 < 2147483648 by omega), nI_clamp (show (k - 1) - 0 < 2147483648 by omega)]; omega) (fun i _ y hy => by obtain ⟨j, vs, hj⟩ := hT _ y hy; exact va_recv hE.1 hP (ci := 1) rfl (tl_at (ws := [oX h 11 [.int (mc + (nI 1)), .ref ea, .int (nI k)], aO G ea 10 ef]) hj)) (vb_asgC (hE.2.2.1 _ q2154 rfl)) (Nat.le_of_ble_eq_true rfl) (Nat.le_of_ble_eq_true rfl) dJ9_fastRemove_31 (fun H locs hP hD hS => ?_)
    have hP : va_P G.1 vwCl ([oX h 11 [.int (mc + (nI 1)), .ref ea, .int (nI k)], aO G ea 10 (va_cpy ef ef 1 0 ((k - 1) - 0))] ++ T) H := by rw [nI_clamp (show 1 < 2147483648 by omega), nI_clamp (show 0 < 2147483648 by omega), nI_clamp (show (k - 1) - 0 < 2147483648 by omega)] at hP; exact hP
    have hD : va_D A ([oX h 11 [.int (mc + (nI 1)), .ref ea, .int (nI k)], aO G ea 10 (va_cpy ef ef 1 0 ((k - 1) - 0))] ++ T) := by rw [nI_clamp (show 1 < 2147483648 by omega), nI_clamp (show 0 < 2147483648 by omega), nI_clamp (show (k - 1) - 0 < 2147483648 by omega)] at hD; exact hD
    refine lv_aload_n hx hb dJ9_fastRemove_34 rfl (lv_at hl 2 rfl) ?_
    refine lv_aload_n hx hb dJ9_fastRemove_35 rfl (lv_at hl 1 rfl) ?_
    refine lv_iload_n hx hb dJ9_fastRemove_36 rfl (lv_at hl 0 rfl) ?_
    refine lv_dup_x1 hx hb dJ9_fastRemove_37 rfl rfl ?_
    refine va_put (D := G.1) (ci := 11) (v := .int (nI (k - 1))) (ty := .int) (C := RJ9) (T := TJ9) (N := 3) hx hb hts in_J9 tyJ9 tyJ9_ok nmJ9 hown hK hP hD hS 0 rfl rfl 2 (by decide) (hts _ q450) (fun _ h9 => h9) rfl (by decide +kernel) rfl rfl (Nat.le_of_ble_eq_true rfl) dJ9_fastRemove_38 (fun H locs hP hD hS => ?_)
    have hP : va_P G.1 vwCl ([oX h 11 [.int (mc + (nI 1)), .ref ea, .int (nI (k - 1))], aO G ea 10 (va_cpy ef ef 1 0 ((k - 1) - 0))] ++ T) _ := hP
    have hD : va_D A ([oX h 11 [.int (mc + (nI 1)), .ref ea, .int (nI (k - 1))], aO G ea 10 (va_cpy ef ef 1 0 ((k - 1) - 0))] ++ T) := hD
    refine lv_null hx hb dJ9_fastRemove_41 ?_
    refine va_astqN (C := "java/lang/Object") hx hb hK hP hD hS 1 4 rfl rfl (vp_in_nI (by omega) (by omega)) dJ9_fastRemove_42 (fun H locs hP hD hS => ?_)
    have hP : va_P G.1 vwCl ([oX h 11 [.int (mc + (nI 1)), .ref ea, .int (nI (k - 1))], aO G ea 10 (va_up (va_cpy ef ef 1 0 ((k - 1) - 0)) (k - 1) none)] ++ T) H := by rw [nI_clamp (show k - 1 < 2147483648 by omega)] at hP; exact hP
    have hD : va_D A ([oX h 11 [.int (mc + (nI 1)), .ref ea, .int (nI (k - 1))], aO G ea 10 (va_up (va_cpy ef ef 1 0 ((k - 1) - 0)) (k - 1) none)] ++ T) := by rw [nI_clamp (show k - 1 < 2147483648 by omega)] at hD; exact hD
    have hP : va_P G.1 vwCl ([oX h 11 [.int (mc + nI 1), .ref ea, .int (nI (k - 1))], aO G ea 10 (va_up (va_cpy ef ef 1 0 (k - 1 - 0)) (k - 1) none)] ++ T) _ := hP
    have hD : va_D A ([oX h 11 [.int (mc + nI 1), .ref ea, .int (nI (k - 1))], aO G ea 10 (va_up (va_cpy ef ef 1 0 (k - 1 - 0)) (k - 1) none)] ++ T) := hD
    rw [hQQ]
    exact rt_v hx hb hr hlk ((())) dJ9_fastRemove_43 hP hD hS (by first | exact Nat.le_of_ble_eq_true rfl | (simp only [rm_J9_fastRemove_f]; omega) | omega) (by first | exact Nat.le_of_ble_eq_true rfl | (simp only [rm_J9_fastRemove_f]; omega) | omega) trivial
def rm_J9_fastRemove_l : Room := ({ frames := 1, cells := 0, slots := 0, locals := 60 } : Room)
set_option maxHeartbeats 400000 in
set_option maxRecDepth 100000 in
theorem t_J9_fastRemove_l (l : Launch) (G : GG) (b0 sz : Nat) (h ea k : Nat) (mc : Int32) (ef : Nat → Option Nat) (hk2 : 1 ≤ k) (hk : k ≤ 10) : CT l yJ9_fastRemove cJ9_fastRemove 4 none (rm_J9_fastRemove_l) G b0 [.ref h, .ref ea, .int (nI (k - 1))] [oX h 11 [.int mc, .ref ea, .int (nI k)], aO G ea 10 ef] sz (Rv G (fun (_ : Unit) => True) (fun (_ : Unit) => [oX h 11 [.int (mc + nI 1), .ref ea, .int (nI (k - 1))], aO G ea 10 (va_up ef (k - 1) none)])) := by
  refine CT.go (by decide) (Nat.le_of_ble_eq_true rfl) (fun p e s m below meth c A ls AR QQ hx hb hr hlk hml hown hnm hts hE hA hAb hsz hP hD hS hl hQQ => ?_)
  have hK := hE.1
  have hown : s.vm.findClass RJ9 = some m.cls := hown
  have hl : lv_has ls 4 [(0, .ref h), (1, .ref ea), (2, .int (nI (k - 1)))] := hl
  clear hsz
  refine lv_aload_n hx hb dJ9_fastRemove_0 rfl (lv_at hl 0 rfl) ?_
  refine lv_dup hx hb dJ9_fastRemove_1 rfl ?_
  refine va_get (D := G.1) (ci := 11) (v := .int mc) (C := RJ9) (T := TJ9) (N := 3) hx hb hts in_J9 hown hK hP 0 rfl rfl 0 (by decide) (hts _ q452) (u_same (hts _ q453)) rfl dJ9_fastRemove_2 ?_
  refine lv_iconst (v := nI 1) hx hb dJ9_fastRemove_5 (by decide) ?_
  refine lv_iadd hx hb dJ9_fastRemove_6 ?_
  refine va_put (D := G.1) (ci := 11) (v := .int (mc + (nI 1))) (ty := .int) (C := RJ9) (T := TJ9) (N := 3) hx hb hts in_J9 tyJ9 tyJ9_ok nmJ9 hown hK hP hD hS 0 rfl rfl 0 (by decide) (hts _ q452) (u_same (hts _ q453)) rfl (by decide +kernel) rfl rfl (Nat.le_of_ble_eq_true rfl) dJ9_fastRemove_7 (fun H locs hP hD hS => ?_)
  have hP : va_P G.1 vwCl [oX h 11 [.int (mc + (nI 1)), .ref ea, .int (nI k)], aO G ea 10 ef] _ := hP
  have hD : va_D A [oX h 11 [.int (mc + (nI 1)), .ref ea, .int (nI k)], aO G ea 10 ef] := hD
  refine lv_aload_n hx hb dJ9_fastRemove_10 rfl (lv_at hl 0 rfl) ?_
  refine va_get (D := G.1) (ci := 11) (v := .int (nI k)) (C := RJ9) (T := TJ9) (N := 3) hx hb hts in_J9 hown hK hP 0 rfl rfl 2 (by decide) (hts _ q450) (fun _ h9 => h9) rfl dJ9_fastRemove_11 ?_
  refine lv_iconst (v := nI 1) hx hb dJ9_fastRemove_14 (by decide) ?_
  refine N_isub hx hb dJ9_fastRemove_15 (by omega) ?_
  refine lv_dup hx hb dJ9_fastRemove_16 rfl ?_
  refine lv_istore_n (lv' := [(3, .int (nI (k - 1))), (0, .ref h), (1, .ref ea), (2, .int (nI (k - 1)))]) hx hb dJ9_fastRemove_17 rfl hl (by decide) rfl (fun ls hl => ?_)
  refine lv_iload_n hx hb dJ9_fastRemove_18 rfl (lv_at hl 3 rfl) ?_
  refine N_icmp_le (tgt := 34) hx hb dJ9_fastRemove_19 (by decide) (by omega) (by omega) (fun c_19 => ?_) (fun c_19 => ?_)
  · skip
    refine lv_aload_n hx hb dJ9_fastRemove_34 rfl (lv_at hl 2 rfl) ?_
    refine lv_aload_n hx hb dJ9_fastRemove_35 rfl (lv_at hl 1 rfl) ?_
    refine lv_iload_n hx hb dJ9_fastRemove_36 rfl (lv_at hl 0 rfl) ?_
    refine lv_dup_x1 hx hb dJ9_fastRemove_37 rfl rfl ?_
    refine va_put (D := G.1) (ci := 11) (v := .int (nI (k - 1))) (ty := .int) (C := RJ9) (T := TJ9) (N := 3) hx hb hts in_J9 tyJ9 tyJ9_ok nmJ9 hown hK hP hD hS 0 rfl rfl 2 (by decide) (hts _ q450) (fun _ h9 => h9) rfl (by decide +kernel) rfl rfl (Nat.le_of_ble_eq_true rfl) dJ9_fastRemove_38 (fun H locs hP hD hS => ?_)
    have hP : va_P G.1 vwCl [oX h 11 [.int (mc + (nI 1)), .ref ea, .int (nI (k - 1))], aO G ea 10 ef] _ := hP
    have hD : va_D A [oX h 11 [.int (mc + (nI 1)), .ref ea, .int (nI (k - 1))], aO G ea 10 ef] := hD
    refine lv_null hx hb dJ9_fastRemove_41 ?_
    refine va_astqN (C := "java/lang/Object") hx hb hK hP hD hS 1 4 rfl rfl (vp_in_nI (by omega) (by omega)) dJ9_fastRemove_42 (fun H locs hP hD hS => ?_)
    have hP : va_P G.1 vwCl [oX h 11 [.int (mc + (nI 1)), .ref ea, .int (nI (k - 1))], aO G ea 10 (va_up ef (k - 1) none)] H := by rw [nI_clamp (show k - 1 < 2147483648 by omega)] at hP; exact hP
    have hD : va_D A [oX h 11 [.int (mc + (nI 1)), .ref ea, .int (nI (k - 1))], aO G ea 10 (va_up ef (k - 1) none)] := by rw [nI_clamp (show k - 1 < 2147483648 by omega)] at hD; exact hD
    have hP : va_P G.1 vwCl [oX h 11 [.int (mc + nI 1), .ref ea, .int (nI (k - 1))], aO G ea 10 (va_up ef (k - 1) none)] _ := hP
    have hD : va_D A [oX h 11 [.int (mc + nI 1), .ref ea, .int (nI (k - 1))], aO G ea 10 (va_up ef (k - 1) none)] := hD
    rw [hQQ]
    exact rt_v hx hb hr hlk ((())) dJ9_fastRemove_43 hP hD hS (by first | exact Nat.le_of_ble_eq_true rfl | (simp only [rm_J9_fastRemove_l]; omega) | omega) (by first | exact Nat.le_of_ble_eq_true rfl | (simp only [rm_J9_fastRemove_l]; omega) | omega) trivial
  · skip
    exfalso; omega
def rm_J18_checkIndex_n : Room := ({ frames := 0, cells := 0, slots := 0, locals := 0 } : Room)
set_option maxHeartbeats 400000 in
set_option maxRecDepth 100000 in
theorem t_J18_checkIndex_n (l : Launch) (G : GG) (b0 sz : Nat) (i n : Nat) (hi : i < n) (hn : n < 100000) : CT l yJ18_checkIndex cJ18_checkIndex 3 (some FieldType.int) (rm_J18_checkIndex_n) G b0 [.int (nI i), .int (nI n), .null] [] sz (Ri G (fun (r_ : Int32) (_ : Unit) => r_ = nI i) (fun (_ : Unit) => [])) := by
  refine CT.go (by decide) (Nat.le_of_ble_eq_true rfl) (fun p e s m below meth c A ls AR QQ hx hb hr hlk hml hown hnm hts hE hA hAb hsz hP hD hS hl hQQ => ?_)
  have hK := hE.1
  have hown : s.vm.findClass RJ18 = some m.cls := hown
  have hl : lv_has ls 3 [(0, .int (nI i)), (1, .int (nI n)), (2, .null)] := hl
  clear hsz
  refine lv_iload_n hx hb dJ18_checkIndex_0 rfl (lv_at hl 0 rfl) ?_
  refine N_if_lt (tgt := 9) hx hb dJ18_checkIndex_1 (by decide) (by omega) (fun h_ => h_.elim) ?_
  refine lv_iload_n hx hb dJ18_checkIndex_4 rfl (lv_at hl 0 rfl) ?_
  refine lv_iload_n hx hb dJ18_checkIndex_5 rfl (lv_at hl 1 rfl) ?_
  refine N_icmp_lt (tgt := 16) hx hb dJ18_checkIndex_6 (by decide) (by omega) (by omega) (fun c_6 => ?_) (fun c_6 => ?_)
  · skip
    refine lv_iload_n hx hb dJ18_checkIndex_16 rfl (lv_at hl 0 rfl) ?_
    rw [hQQ]
    exact rt_i hx hb hr hlk  ((())) dJ18_checkIndex_17 hP hD hS (by first | exact Nat.le_of_ble_eq_true rfl | (simp only [rm_J18_checkIndex_n]; omega) | omega) (by first | exact Nat.le_of_ble_eq_true rfl | (simp only [rm_J18_checkIndex_n]; omega) | omega) (by rfl)
  · skip
    exfalso; omega
def rm_J18_checkIndex_r : Room := ({ frames := 0, cells := 0, slots := 0, locals := 0 } : Room)
set_option maxHeartbeats 400000 in
set_option maxRecDepth 100000 in
theorem t_J18_checkIndex_r (l : Launch) (G : GG) (b0 sz : Nat) (i n : Nat) (bf : Nat) (hi : i < n) (hn : n < 100000) : CT l yJ18_checkIndex cJ18_checkIndex 3 (some FieldType.int) (rm_J18_checkIndex_r) G b0 [.int (nI i), .int (nI n), .ref bf] [] sz (Ri G (fun (r_ : Int32) (_ : Unit) => r_ = nI i) (fun (_ : Unit) => [])) := by
  refine CT.go (by decide) (Nat.le_of_ble_eq_true rfl) (fun p e s m below meth c A ls AR QQ hx hb hr hlk hml hown hnm hts hE hA hAb hsz hP hD hS hl hQQ => ?_)
  have hK := hE.1
  have hown : s.vm.findClass RJ18 = some m.cls := hown
  have hl : lv_has ls 3 [(0, .int (nI i)), (1, .int (nI n)), (2, .ref bf)] := hl
  clear hsz
  refine lv_iload_n hx hb dJ18_checkIndex_0 rfl (lv_at hl 0 rfl) ?_
  refine N_if_lt (tgt := 9) hx hb dJ18_checkIndex_1 (by decide) (by omega) (fun h_ => h_.elim) ?_
  refine lv_iload_n hx hb dJ18_checkIndex_4 rfl (lv_at hl 0 rfl) ?_
  refine lv_iload_n hx hb dJ18_checkIndex_5 rfl (lv_at hl 1 rfl) ?_
  refine N_icmp_lt (tgt := 16) hx hb dJ18_checkIndex_6 (by decide) (by omega) (by omega) (fun c_6 => ?_) (fun c_6 => ?_)
  · skip
    refine lv_iload_n hx hb dJ18_checkIndex_16 rfl (lv_at hl 0 rfl) ?_
    rw [hQQ]
    exact rt_i hx hb hr hlk  ((())) dJ18_checkIndex_17 hP hD hS (by first | exact Nat.le_of_ble_eq_true rfl | (simp only [rm_J18_checkIndex_r]; omega) | omega) (by first | exact Nat.le_of_ble_eq_true rfl | (simp only [rm_J18_checkIndex_r]; omega) | omega) (by rfl)
  · skip
    exfalso; omega
def rm_J17_checkIndex : Room := ({ frames := 1, cells := 0, slots := 0, locals := 30 } : Room)
set_option maxHeartbeats 400000 in
set_option maxRecDepth 100000 in
theorem t_J17_checkIndex (l : Launch) (G : GG) (b0 sz : Nat) (i n : Nat) (hi : i < n) (hn : n < 100000) : CT l yJ17_checkIndex cJ17_checkIndex 2 (some FieldType.int) (rm_J17_checkIndex) G b0 [.int (nI i), .int (nI n)] [] sz (Ri G (fun (r_ : Int32) (_ : Unit) => r_ = nI i) (fun (_ : Unit) => [])) := by
  refine CT.go (by decide) (Nat.le_of_ble_eq_true rfl) (fun p e s m below meth c A ls AR QQ hx hb hr hlk hml hown hnm hts hE hA hAb hsz hP hD hS hl hQQ => ?_)
  have hK := hE.1
  have hown : s.vm.findClass RJ17 = some m.cls := hown
  have hl : lv_has ls 2 [(0, .int (nI i)), (1, .int (nI n))] := hl
  clear hsz
  refine lv_iload_n hx hb dJ17_checkIndex_0 rfl (lv_at hl 0 rfl) ?_
  refine lv_iload_n hx hb dJ17_checkIndex_1 rfl (lv_at hl 1 rfl) ?_
  refine lv_null hx hb dJ17_checkIndex_2 ?_
  refine fin_i (ws' := (fun (_ : Unit) => [])) hA hS hP hD [] rfl [] (fun _ => rfl) (by decide) (run_S (As := [.int (nI i), .int (nI n), .null]) (rest := []) (n9 := 3) hx hb hml hown hts hE hAb hl.1 hS hP hD [] rfl (by decide) (t_J18_checkIndex_n l G b0 _ i n (by omega) (by omega)) (lw_S q551 q552 q134 q553) ⟨by decide, by decide, by decide +kernel⟩ ⟨Nat.le_of_ble_eq_true rfl, Nat.le_of_ble_eq_true rfl⟩ ⟨by first | exact Nat.le_of_ble_eq_true rfl | (simp only [rm_J17_checkIndex, rm_J18_checkIndex_n]; omega), by first | exact Nat.le_of_ble_eq_true rfl | (simp only [rm_J17_checkIndex, rm_J18_checkIndex_n]; omega)⟩ dJ17_checkIndex_3 (Nat.le_of_ble_eq_true rfl) rfl rfl) (fun r_1 u_1 H locs h_1 hP hD hS => ?_)
  have hP : va_P G.1 vwCl [] _ := hP
  have hD : va_D A [] := hD
  have h_1 : r_1 = (nI i) := h_1
  rw [h_1]
  rw [hQQ]
  exact rt_i hx hb hr hlk  ((())) dJ17_checkIndex_6 hP hD hS (by first | exact Nat.le_of_ble_eq_true rfl | (simp only [rm_J17_checkIndex, rm_J18_checkIndex_n]; omega) | omega) (by first | exact Nat.le_of_ble_eq_true rfl | (simp only [rm_J17_checkIndex, rm_J18_checkIndex_n]; omega) | omega) (by rfl)
def rm_J9_remove_f : Room := ({ frames := 2, cells := 0, slots := 0, locals := 90 } : Room)
set_option maxHeartbeats 400000 in
set_option maxRecDepth 100000 in
theorem t_J9_remove_f (l : Launch) (G : GG) (b0 sz : Nat) (h ea k : Nat) (mc : Int32) (ef : Nat → Option Nat) (r : Nat) (T : va_W) (hk2 : 2 ≤ k) (hk : k ≤ 10) (hT : ∀ i y, ef i = some y → ∃ (j : Nat) (vs : List Value), T[j]? = some (y, .inr (1, vs))) (hr_ : ef 0 = some r) : CT l yJ9_remove cJ9_remove 4 (some (FieldType.object "java/lang/Object")) (rm_J9_remove_f) G b0 [.ref h, .int (nI 0)] ([oX h 11 [.int mc, .ref ea, .int (nI k)], aO G ea 10 ef] ++ T) sz (Rr G (fun (_ : Unit) => True) (fun (_ : Unit) => r) (fun (_ : Unit) => ([oX h 11 [.int (mc + nI 1), .ref ea, .int (nI (k - 1))], aO G ea 10 (va_up (va_cpy ef ef 1 0 (k - 1 - 0)) (k - 1) none)] ++ T))) := by
  refine CT.go (by decide) (Nat.le_of_ble_eq_true rfl) (fun p e s m below meth c A ls AR QQ hx hb hr hlk hml hown hnm hts hE hA hAb hsz hP hD hS hl hQQ => ?_)
  have hK := hE.1
  have hown : s.vm.findClass RJ9 = some m.cls := hown
  have hl : lv_has ls 4 [(0, .ref h), (1, .int (nI 0))] := hl
  clear hsz
  refine lv_iload_n hx hb dJ9_remove_0 rfl (lv_at hl 1 rfl) ?_
  refine lv_aload_n hx hb dJ9_remove_1 rfl (lv_at hl 0 rfl) ?_
  refine va_get (D := G.1) (ci := 11) (v := .int (nI k)) (C := RJ9) (T := TJ9) (N := 3) hx hb hts in_J9 hown hK hP 0 rfl rfl 2 (by decide) (hts _ q450) (fun _ h9 => h9) rfl dJ9_remove_2 ?_
  have hF_1 := fr_free (wc := []) [] rfl hA hS hD
  refine fin_iF (ws' := (fun (_ : Unit) => ([oX h 11 [.int mc, .ref ea, .int (nI k)], aO G ea 10 ef] ++ T))) hS hF_1 (run_S (As := [.int (nI 0), .int (nI k)]) (rest := []) (n9 := 2) hx hb hml hown hts hE hAb hl.1 hS hP hD [] rfl (by decide) (t_J17_checkIndex l G b0 _ 0 k (by omega) (by omega)) (lw_S q548 q549 q133 q550) ⟨by decide, by decide, by decide +kernel⟩ ⟨Nat.le_of_ble_eq_true rfl, Nat.le_of_ble_eq_true rfl⟩ ⟨by first | exact Nat.le_of_ble_eq_true rfl | (simp only [rm_J9_remove_f, rm_J17_checkIndex]; omega), by first | exact Nat.le_of_ble_eq_true rfl | (simp only [rm_J9_remove_f, rm_J17_checkIndex]; omega)⟩ dJ9_remove_5 (Nat.le_of_ble_eq_true rfl) rfl rfl) (fun _ H1_ hk_ hp_ hd_ => fr_selT (ws := [oX h 11 [.int mc, .ref ea, .int (nI k)], aO G ea 10 ef]) (wc := []) (ws' := [oX h 11 [.int mc, .ref ea, .int (nI k)], aO G ea 10 ef]) (tl := T) [] [(false, 0), (false, 1)] rfl rfl (by decide) hP hD hk_ hF_1 hp_ hd_) (fun r_1 u_1 H locs h_1 hP hD hS => ?_)
  have hP : va_P G.1 vwCl ([oX h 11 [.int mc, .ref ea, .int (nI k)], aO G ea 10 ef] ++ T) _ := hP
  have hD : va_D A ([oX h 11 [.int mc, .ref ea, .int (nI k)], aO G ea 10 ef] ++ T) := hD
  have h_1 : r_1 = (nI 0) := h_1
  rw [h_1]
  refine lv_pop hx hb dJ9_remove_8 rfl ?_
  refine lv_aload_n hx hb dJ9_remove_9 rfl (lv_at hl 0 rfl) ?_
  refine va_get (D := G.1) (ci := 11) (v := .ref ea) (C := RJ9) (T := TJ9) (N := 3) hx hb hts in_J9 hown hK hP 0 rfl rfl 1 (by decide) (hts _ q449) (fun _ h9 => h9) rfl dJ9_remove_10 ?_
  refine lv_astore_n (lv' := [(2, .ref ea), (0, .ref h), (1, .int (nI 0))]) hx hb dJ9_remove_13 rfl hl (by decide) rfl (fun ls hl => ?_)
  refine lv_aload_n hx hb dJ9_remove_14 rfl (lv_at hl 0 rfl) ?_
  refine lv_iload_n hx hb dJ9_remove_15 rfl (lv_at hl 2 rfl) ?_
  refine N_aald hx hb dJ9_remove_16 hK hP 1 4 rfl rfl (by omega) (by omega) ?_
  refine top_q (y := some (r)) (by exact hr_) ?_
  refine W.eq (g2 := F0 m 17 ls [.ref r]) rfl ?_
  refine lv_astore_n (lv' := [(3, .ref r), (2, .ref ea), (0, .ref h), (1, .int (nI 0))]) hx hb dJ9_remove_17 rfl hl (by decide) rfl (fun ls hl => ?_)
  refine lv_aload_n hx hb dJ9_remove_18 rfl (lv_at hl 2 rfl) ?_
  refine lv_aload_n hx hb dJ9_remove_19 rfl (lv_at hl 1 rfl) ?_
  refine lv_iload_n hx hb dJ9_remove_20 rfl (lv_at hl 3 rfl) ?_
  have hF_2 := fr_free (wc := [oX h 11 [.int mc, .ref ea, .int (nI k)], aO G ea 10 ef] ++ T) (isT [0, 1] 2 T) (isT_C (ws := [oX h 11 [.int mc, .ref ea, .int (nI k)], aO G ea 10 ef]) (wc := [oX h 11 [.int mc, .ref ea, .int (nI k)], aO G ea 10 ef]) rfl) hA hS hD
  refine fin_vF (ws' := (fun (_ : Unit) => ([oX h 11 [.int (mc + nI 1), .ref ea, .int (nI (k - 1))], aO G ea 10 (va_up (va_cpy ef ef 1 0 (k - 1 - 0)) (k - 1) none)] ++ T))) hS hF_2 (run_V (As := [.ref ea, .int (nI 0)]) (rest := []) (n9 := 2) hx hb hml hown hts hE hAb hl.1 hS hP hD (isT [0, 1] 2 T) (isT_C (ws := [oX h 11 [.int mc, .ref ea, .int (nI k)], aO G ea 10 ef]) (wc := [oX h 11 [.int mc, .ref ea, .int (nI k)], aO G ea 10 ef]) rfl) (isT_n (by decide)) (t_J9_fastRemove_f l G b0 _ h ea k mc ef T (by omega) (by omega) (by exact hT)) (lw_V q554 q556 qs5 q124 q557) 0 rfl rfl ⟨rfl, by decide, by decide, by decide +kernel⟩ ⟨Nat.le_of_ble_eq_true rfl, Nat.le_of_ble_eq_true rfl⟩ ⟨by first | exact Nat.le_of_ble_eq_true rfl | (simp only [rm_J9_remove_f, rm_J9_fastRemove_f, rm_J17_checkIndex]; omega), by first | exact Nat.le_of_ble_eq_true rfl | (simp only [rm_J9_remove_f, rm_J9_fastRemove_f, rm_J17_checkIndex]; omega)⟩ dJ9_remove_21 (Nat.le_of_ble_eq_true rfl) rfl rfl) (fun _ H1_ hk_ hp_ hd_ => fr_selP (w1 := [oX h 11 [.int (mc + nI 1), .ref ea, .int (nI (k - 1))], aO G ea 10 (va_up (va_cpy ef ef 1 0 (k - 1 - 0)) (k - 1) none)]) (ws := [oX h 11 [.int mc, .ref ea, .int (nI k)], aO G ea 10 ef]) (wc := [oX h 11 [.int mc, .ref ea, .int (nI k)], aO G ea 10 ef]) (ws' := [oX h 11 [.int (mc + nI 1), .ref ea, .int (nI (k - 1))], aO G ea 10 (va_up (va_cpy ef ef 1 0 (k - 1 - 0)) (k - 1) none)]) (tl := T) [0, 1] [(true, 0), (true, 1)] 2 rfl rfl rfl (by decide) hP hD hk_ hF_2 hp_ hd_) (fun u_2 H locs h_2 hP hD hS => ?_)
  have hP : va_P G.1 vwCl ([oX h 11 [.int (mc + nI 1), .ref ea, .int (nI (k - 1))], aO G ea 10 (va_up (va_cpy ef ef 1 0 (k - 1 - 0)) (k - 1) none)] ++ T) _ := hP
  have hD : va_D A ([oX h 11 [.int (mc + nI 1), .ref ea, .int (nI (k - 1))], aO G ea 10 (va_up (va_cpy ef ef 1 0 (k - 1 - 0)) (k - 1) none)] ++ T) := hD
  refine lv_aload_n hx hb dJ9_remove_24 rfl (lv_at hl 0 rfl) ?_
  rw [hQQ]
  exact rt_r hx hb hr hlk (by first | exact Or.inl ⟨_, rfl⟩ | exact Or.inr ⟨_, rfl⟩) ((())) dJ9_remove_25 hP hD hS (by first | exact Nat.le_of_ble_eq_true rfl | (simp only [rm_J9_remove_f, rm_J17_checkIndex, rm_J9_fastRemove_f]; omega) | omega) (by first | exact Nat.le_of_ble_eq_true rfl | (simp only [rm_J9_remove_f, rm_J17_checkIndex, rm_J9_fastRemove_f]; omega) | omega) (by rfl) trivial
def rm_J9_remove_l : Room := ({ frames := 2, cells := 0, slots := 0, locals := 90 } : Room)
set_option maxHeartbeats 400000 in
set_option maxRecDepth 100000 in
theorem t_J9_remove_l (l : Launch) (G : GG) (b0 sz : Nat) (h ea k : Nat) (mc : Int32) (ef : Nat → Option Nat) (r : Nat) (hk2 : 1 ≤ k) (hk : k ≤ 10) (hr_ : ef (k - 1) = some r) : CT l yJ9_remove cJ9_remove 4 (some (FieldType.object "java/lang/Object")) (rm_J9_remove_l) G b0 [.ref h, .int (nI (k - 1))] [oX h 11 [.int mc, .ref ea, .int (nI k)], aO G ea 10 ef] sz (Rr G (fun (_ : Unit) => True) (fun (_ : Unit) => r) (fun (_ : Unit) => [oX h 11 [.int (mc + nI 1), .ref ea, .int (nI (k - 1))], aO G ea 10 (va_up ef (k - 1) none)])) := by
  refine CT.go (by decide) (Nat.le_of_ble_eq_true rfl) (fun p e s m below meth c A ls AR QQ hx hb hr hlk hml hown hnm hts hE hA hAb hsz hP hD hS hl hQQ => ?_)
  have hK := hE.1
  have hown : s.vm.findClass RJ9 = some m.cls := hown
  have hl : lv_has ls 4 [(0, .ref h), (1, .int (nI (k - 1)))] := hl
  clear hsz
  refine lv_iload_n hx hb dJ9_remove_0 rfl (lv_at hl 1 rfl) ?_
  refine lv_aload_n hx hb dJ9_remove_1 rfl (lv_at hl 0 rfl) ?_
  refine va_get (D := G.1) (ci := 11) (v := .int (nI k)) (C := RJ9) (T := TJ9) (N := 3) hx hb hts in_J9 hown hK hP 0 rfl rfl 2 (by decide) (hts _ q450) (fun _ h9 => h9) rfl dJ9_remove_2 ?_
  refine fin_i (ws' := (fun (_ : Unit) => [oX h 11 [.int mc, .ref ea, .int (nI k)], aO G ea 10 ef])) hA hS hP hD [] rfl [(false, 0), (false, 1)] (fun _ => rfl) (by decide) (run_S (As := [.int (nI (k - 1)), .int (nI k)]) (rest := []) (n9 := 2) hx hb hml hown hts hE hAb hl.1 hS hP hD [] rfl (by decide) (t_J17_checkIndex l G b0 _ (k - 1) k (by omega) (by omega)) (lw_S q548 q549 q133 q550) ⟨by decide, by decide, by decide +kernel⟩ ⟨Nat.le_of_ble_eq_true rfl, Nat.le_of_ble_eq_true rfl⟩ ⟨by first | exact Nat.le_of_ble_eq_true rfl | (simp only [rm_J9_remove_l, rm_J17_checkIndex]; omega), by first | exact Nat.le_of_ble_eq_true rfl | (simp only [rm_J9_remove_l, rm_J17_checkIndex]; omega)⟩ dJ9_remove_5 (Nat.le_of_ble_eq_true rfl) rfl rfl) (fun r_1 u_1 H locs h_1 hP hD hS => ?_)
  have hP : va_P G.1 vwCl [oX h 11 [.int mc, .ref ea, .int (nI k)], aO G ea 10 ef] _ := hP
  have hD : va_D A [oX h 11 [.int mc, .ref ea, .int (nI k)], aO G ea 10 ef] := hD
  have h_1 : r_1 = (nI (k - 1)) := h_1
  rw [h_1]
  refine lv_pop hx hb dJ9_remove_8 rfl ?_
  refine lv_aload_n hx hb dJ9_remove_9 rfl (lv_at hl 0 rfl) ?_
  refine va_get (D := G.1) (ci := 11) (v := .ref ea) (C := RJ9) (T := TJ9) (N := 3) hx hb hts in_J9 hown hK hP 0 rfl rfl 1 (by decide) (hts _ q449) (fun _ h9 => h9) rfl dJ9_remove_10 ?_
  refine lv_astore_n (lv' := [(2, .ref ea), (0, .ref h), (1, .int (nI (k - 1)))]) hx hb dJ9_remove_13 rfl hl (by decide) rfl (fun ls hl => ?_)
  refine lv_aload_n hx hb dJ9_remove_14 rfl (lv_at hl 0 rfl) ?_
  refine lv_iload_n hx hb dJ9_remove_15 rfl (lv_at hl 2 rfl) ?_
  refine N_aald hx hb dJ9_remove_16 hK hP 1 4 rfl rfl (by omega) (by omega) ?_
  refine top_q (y := some (r)) (by exact hr_) ?_
  refine W.eq (g2 := F0 m 17 ls [.ref r]) rfl ?_
  refine lv_astore_n (lv' := [(3, .ref r), (2, .ref ea), (0, .ref h), (1, .int (nI (k - 1)))]) hx hb dJ9_remove_17 rfl hl (by decide) rfl (fun ls hl => ?_)
  refine lv_aload_n hx hb dJ9_remove_18 rfl (lv_at hl 2 rfl) ?_
  refine lv_aload_n hx hb dJ9_remove_19 rfl (lv_at hl 1 rfl) ?_
  refine lv_iload_n hx hb dJ9_remove_20 rfl (lv_at hl 3 rfl) ?_
  refine fin_v (ws' := (fun (_ : Unit) => [oX h 11 [.int (mc + nI 1), .ref ea, .int (nI (k - 1))], aO G ea 10 (va_up ef (k - 1) none)])) hA hS hP hD [0, 1] rfl [(true, 0), (true, 1)] (fun _ => rfl) (by decide) (run_V (As := [.ref ea, .int (nI (k - 1))]) (rest := []) (n9 := 2) hx hb hml hown hts hE hAb hl.1 hS hP hD [0, 1] rfl (by decide) (t_J9_fastRemove_l l G b0 _ h ea k mc ef (by omega) (by omega)) (lw_V q554 q556 qs5 q124 q557) 0 rfl rfl ⟨rfl, by decide, by decide, by decide +kernel⟩ ⟨Nat.le_of_ble_eq_true rfl, Nat.le_of_ble_eq_true rfl⟩ ⟨by first | exact Nat.le_of_ble_eq_true rfl | (simp only [rm_J9_remove_l, rm_J9_fastRemove_l, rm_J17_checkIndex]; omega), by first | exact Nat.le_of_ble_eq_true rfl | (simp only [rm_J9_remove_l, rm_J9_fastRemove_l, rm_J17_checkIndex]; omega)⟩ dJ9_remove_21 (Nat.le_of_ble_eq_true rfl) rfl rfl) (fun u_2 H locs h_2 hP hD hS => ?_)
  have hP : va_P G.1 vwCl [oX h 11 [.int (mc + nI 1), .ref ea, .int (nI (k - 1))], aO G ea 10 (va_up ef (k - 1) none)] _ := hP
  have hD : va_D A [oX h 11 [.int (mc + nI 1), .ref ea, .int (nI (k - 1))], aO G ea 10 (va_up ef (k - 1) none)] := hD
  refine lv_aload_n hx hb dJ9_remove_24 rfl (lv_at hl 0 rfl) ?_
  rw [hQQ]
  exact rt_r hx hb hr hlk (by first | exact Or.inl ⟨_, rfl⟩ | exact Or.inr ⟨_, rfl⟩) ((())) dJ9_remove_25 hP hD hS (by first | exact Nat.le_of_ble_eq_true rfl | (simp only [rm_J9_remove_l, rm_J17_checkIndex, rm_J9_fastRemove_l]; omega) | omega) (by first | exact Nat.le_of_ble_eq_true rfl | (simp only [rm_J9_remove_l, rm_J17_checkIndex, rm_J9_fastRemove_l]; omega) | omega) (by rfl) trivial
def rm_J7_init : Room := ({ frames := 1, cells := 0, slots := 0, locals := 20 } : Room)
set_option maxHeartbeats 400000 in
set_option maxRecDepth 100000 in
theorem t_J7_init (l : Launch) (G : GG) (b0 sz : Nat) (h : Nat) : CT l yJ7_init cJ7_init 1 none (rm_J7_init) G b0 [.ref h] [oX h 11 [.int (nI 0), .null, .int (nI 0)]] sz (Rv G (fun (_ : Unit) => True) (fun (_ : Unit) => [oX h 11 [.int (nI 0), .null, .int (nI 0)]])) := by
  refine CT.go (by decide) (Nat.le_of_ble_eq_true rfl) (fun p e s m below meth c A ls AR QQ hx hb hr hlk hml hown hnm hts hE hA hAb hsz hP hD hS hl hQQ => ?_)
  have hK := hE.1
  have hown : s.vm.findClass RJ7 = some m.cls := hown
  have hl : lv_has ls 1 [(0, .ref h)] := hl
  clear hsz
  refine lv_aload_n hx hb dJ7_init_0 rfl (lv_at hl 0 rfl) ?_
  refine O_init hx hb (hml.trans hl.1.symm) hown hts q446 q150 q151 dJ7_init_1 (Nat.le_of_ble_eq_true rfl) (Nat.le_of_ble_eq_true rfl) ?_
  rw [hQQ]
  exact rt_v hx hb hr hlk ((())) dJ7_init_4 hP hD hS (by first | exact Nat.le_of_ble_eq_true rfl | (simp only [rm_J7_init]; omega) | omega) (by first | exact Nat.le_of_ble_eq_true rfl | (simp only [rm_J7_init]; omega) | omega) trivial
def rm_J8_init : Room := ({ frames := 2, cells := 0, slots := 0, locals := 50 } : Room)
set_option maxHeartbeats 400000 in
set_option maxRecDepth 100000 in
theorem t_J8_init (l : Launch) (G : GG) (b0 sz : Nat) (h : Nat) : CT l yJ8_init cJ8_init 1 none (rm_J8_init) G b0 [.ref h] [oX h 11 [.int (nI 0), .null, .int (nI 0)]] sz (Rv G (fun (_ : Unit) => True) (fun (_ : Unit) => [oX h 11 [.int (nI 0), .null, .int (nI 0)]])) := by
  refine CT.go (by decide) (Nat.le_of_ble_eq_true rfl) (fun p e s m below meth c A ls AR QQ hx hb hr hlk hml hown hnm hts hE hA hAb hsz hP hD hS hl hQQ => ?_)
  have hK := hE.1
  have hown : s.vm.findClass RJ8 = some m.cls := hown
  have hl : lv_has ls 1 [(0, .ref h)] := hl
  clear hsz
  refine lv_aload_n hx hb dJ8_init_0 rfl (lv_at hl 0 rfl) ?_
  refine fin_v (ws' := (fun (_ : Unit) => [oX h 11 [.int (nI 0), .null, .int (nI 0)]])) hA hS hP hD [0] rfl [(true, 0)] (fun _ => rfl) (by decide) (run_I (As := []) (rest := []) (n9 := 0) hx hb hml hown hts hE hAb hl.1 hS hP hD [0] rfl (by decide) (t_J7_init l G b0 _ h ) (lw_meth q445) q122 q443 q444 rfl ⟨by decide, by decide, by decide +kernel⟩ ⟨Nat.le_of_ble_eq_true rfl, Nat.le_of_ble_eq_true rfl⟩ ⟨by first | exact Nat.le_of_ble_eq_true rfl | (simp only [rm_J8_init, rm_J7_init]; omega), by first | exact Nat.le_of_ble_eq_true rfl | (simp only [rm_J8_init, rm_J7_init]; omega)⟩ dJ8_init_1 (Nat.le_of_ble_eq_true rfl) rfl rfl) (fun u_1 H locs h_1 hP hD hS => ?_)
  have hP : va_P G.1 vwCl [oX h 11 [.int (nI 0), .null, .int (nI 0)]] _ := hP
  have hD : va_D A [oX h 11 [.int (nI 0), .null, .int (nI 0)]] := hD
  refine lv_aload_n hx hb dJ8_init_4 rfl (lv_at hl 0 rfl) ?_
  refine lv_iconst (v := nI 0) hx hb dJ8_init_5 (by decide) ?_
  refine va_put (D := G.1) (ci := 11) (v := .int (nI 0)) (ty := .int) (C := RJ9) (T := TJ9) (N := 3) hx hb hts in_J9 tyJ9 tyJ9_ok nmJ9 hown hK hP hD hS 0 rfl rfl 0 (by decide) (hts _ q451) (fun _ h9 => h9) rfl (by decide +kernel) rfl rfl (Nat.le_of_ble_eq_true rfl) dJ8_init_6 (fun H locs hP hD hS => ?_)
  have hP : va_P G.1 vwCl [oX h 11 [.int (nI 0), .null, .int (nI 0)]] _ := hP
  have hD : va_D A [oX h 11 [.int (nI 0), .null, .int (nI 0)]] := hD
  rw [hQQ]
  exact rt_v hx hb hr hlk ((())) dJ8_init_9 hP hD hS (by first | exact Nat.le_of_ble_eq_true rfl | (simp only [rm_J8_init, rm_J7_init]; omega) | omega) (by first | exact Nat.le_of_ble_eq_true rfl | (simp only [rm_J8_init, rm_J7_init]; omega) | omega) trivial
def rm_J9_init : Room := ({ frames := 3, cells := 0, slots := 0, locals := 80 } : Room)
set_option maxHeartbeats 400000 in
set_option maxRecDepth 100000 in
theorem t_J9_init (l : Launch) (G : GG) (b0 sz : Nat) (h : Nat) : CT l yJ9_init cJ9_init 1 none (rm_J9_init) G b0 [.ref h] [oX h 11 [.int (nI 0), .null, .int (nI 0)]] sz (Rv G (fun (_ : Unit) => True) (fun (_ : Unit) => [oX h 11 [.int (nI 0), .ref (G.2.2.1 1), .int (nI 0)]])) := by
  refine CT.go (by decide) (Nat.le_of_ble_eq_true rfl) (fun p e s m below meth c A ls AR QQ hx hb hr hlk hml hown hnm hts hE hA hAb hsz hP hD hS hl hQQ => ?_)
  have hK := hE.1
  have hown : s.vm.findClass RJ9 = some m.cls := hown
  have hl : lv_has ls 1 [(0, .ref h)] := hl
  clear hsz
  refine lv_aload_n hx hb dJ9_init_0 rfl (lv_at hl 0 rfl) ?_
  refine fin_v (ws' := (fun (_ : Unit) => [oX h 11 [.int (nI 0), .null, .int (nI 0)]])) hA hS hP hD [0] rfl [(true, 0)] (fun _ => rfl) (by decide) (run_I (As := []) (rest := []) (n9 := 0) hx hb hml hown hts hE hAb hl.1 hS hP hD [0] rfl (by decide) (t_J8_init l G b0 _ h ) (lw_meth q442) q123 q440 q441 rfl ⟨by decide, by decide, by decide +kernel⟩ ⟨Nat.le_of_ble_eq_true rfl, Nat.le_of_ble_eq_true rfl⟩ ⟨by first | exact Nat.le_of_ble_eq_true rfl | (simp only [rm_J9_init, rm_J8_init]; omega), by first | exact Nat.le_of_ble_eq_true rfl | (simp only [rm_J9_init, rm_J8_init]; omega)⟩ dJ9_init_1 (Nat.le_of_ble_eq_true rfl) rfl rfl) (fun u_1 H locs h_1 hP hD hS => ?_)
  have hP : va_P G.1 vwCl [oX h 11 [.int (nI 0), .null, .int (nI 0)]] _ := hP
  have hD : va_D A [oX h 11 [.int (nI 0), .null, .int (nI 0)]] := hD
  refine lv_aload_n hx hb dJ9_init_4 rfl (lv_at hl 0 rfl) ?_
  refine va_gets (C := "java/util/ArrayList") (n := "DEFAULTCAPACITY_EMPTY_ELEMENTDATA") (d := "[Ljava/lang/Object;") (ref := "java/util/ArrayList") hx hb (hE.2.2.2.2.2.2.nar hAb).2.2.2.2.2.2.1 hS hown (hts _ q447) (fun _ h_ => h_) dJ9_init_5 ?_
  refine va_put (D := G.1) (ci := 11) (v := .ref (G.2.2.1 1)) (ty := (.array (.object "java/lang/Object"))) (C := RJ9) (T := TJ9) (N := 3) hx hb hts in_J9 tyJ9 tyJ9_ok nmJ9 hown hK hP hD hS 0 rfl rfl 1 (by decide) (hts _ q449) (fun _ h9 => h9) rfl (by decide +kernel) rfl rfl (Nat.le_of_ble_eq_true rfl) dJ9_init_8 (fun H locs hP hD hS => ?_)
  have hP : va_P G.1 vwCl [oX h 11 [.int (nI 0), .ref (G.2.2.1 1), .int (nI 0)]] _ := hP
  have hD : va_D A [oX h 11 [.int (nI 0), .ref (G.2.2.1 1), .int (nI 0)]] := hD
  rw [hQQ]
  exact rt_v hx hb hr hlk ((())) dJ9_init_11 hP hD hS (by first | exact Nat.le_of_ble_eq_true rfl | (simp only [rm_J9_init, rm_J8_init]; omega) | omega) (by first | exact Nat.le_of_ble_eq_true rfl | (simp only [rm_J9_init, rm_J8_init]; omega) | omega) trivial
