/-! ===== the text ===== -/
theorem sub60 : ∀ n, n < 61 → nI n - nI (60 / 2 ^ 0) ≤ 0 := by decide +kernel
theorem and255 : ∀ c, c < 256 → nI c &&& nI 255 = nI c := by decide +kernel
theorem i2b_n : ∀ c, c < 128 → (nI c).toInt8.toInt32 = nI c := by decide +kernel
theorem cast_c {c : Nat} (h : c < 128) : ((nI c).toUInt32 % 65536).toInt32 = nI c := (show ∀ c, c < 128 → ((nI c).toUInt32 % 65536).toInt32 = nI c by decide +kernel) c h
theorem nar_c {c : Nat} (h : c < 128) : narrow FieldType.char (Value.int (nI c)) = Value.int (nI c) := by
  first | exact congrArg Value.int (cast_c h) | (unfold narrow; exact congrArg Value.int (cast_c h)) | (simp only [narrow]; exact congrArg Value.int (cast_c h))
theorem nar_b : ∀ c, c < 128 → vp_nar .byte (nI c) = nI c := by decide +kernel
def rm_J10_length : Room := ({ frames := 0, cells := 0, slots := 0, locals := 0 } : Room)
set_option maxHeartbeats 400000 in
set_option maxRecDepth 100000 in
theorem t_J10_length (l : Launch) (G : GG) (b0 sz : Nat) (h v n : Nat) (ml : Bool) (ch : Nat → Nat) : CT l yJ10_length cJ10_length 1 (some FieldType.int) (rm_J10_length) G b0 [.ref h] [oX h 12 [.ref v, .int (nI 0), .int (bI ml), .int (nI n)], aB G v 60 (nF ch)] sz (Ri G (fun (r_ : Int32) (_ : Unit) => r_ = nI n) (fun (_ : Unit) => [oX h 12 [.ref v, .int (nI 0), .int (bI ml), .int (nI n)], aB G v 60 (nF ch)])) := by
  refine CT.go (by decide) (Nat.le_of_ble_eq_true rfl) (fun p e s m below meth c A ls AR QQ hx hb hr hlk hml hown hnm hts hE hA hAb hsz hP hD hS hl hQQ => ?_)
  have hK := hE.1
  have hown : s.vm.findClass RJ10 = some m.cls := hown
  have hl : lv_has ls 1 [(0, .ref h)] := hl
  clear hsz
  refine lv_aload_n hx hb dJ10_length_0 rfl (lv_at hl 0 rfl) ?_
  refine va_get (D := G.1) (ci := 12) (v := .int (nI n)) (C := RJ11) (T := TJ11) (N := 4) hx hb hts in_J11 hown hK hP 0 rfl rfl 3 (by decide) (hts _ q483) (fun _ h9 => h9) rfl dJ10_length_1 ?_
  rw [hQQ]
  exact rt_i hx hb hr hlk  ((())) dJ10_length_4 hP hD hS (by first | exact Nat.le_of_ble_eq_true rfl | (simp only [rm_J10_length]; omega) | omega) (by first | exact Nat.le_of_ble_eq_true rfl | (simp only [rm_J10_length]; omega) | omega) (by rfl)
def rm_J11_length : Room := ({ frames := 1, cells := 0, slots := 0, locals := 30 } : Room)
set_option maxHeartbeats 400000 in
set_option maxRecDepth 100000 in
theorem t_J11_length (l : Launch) (G : GG) (b0 sz : Nat) (h v n : Nat) (ml : Bool) (ch : Nat → Nat) : CT l yJ11_length cJ11_length 1 (some FieldType.int) (rm_J11_length) G b0 [.ref h] [oX h 12 [.ref v, .int (nI 0), .int (bI ml), .int (nI n)], aB G v 60 (nF ch)] sz (Ri G (fun (r_ : Int32) (_ : Unit) => r_ = nI n) (fun (_ : Unit) => [oX h 12 [.ref v, .int (nI 0), .int (bI ml), .int (nI n)], aB G v 60 (nF ch)])) := by
  refine CT.go (by decide) (Nat.le_of_ble_eq_true rfl) (fun p e s m below meth c A ls AR QQ hx hb hr hlk hml hown hnm hts hE hA hAb hsz hP hD hS hl hQQ => ?_)
  have hK := hE.1
  have hown : s.vm.findClass RJ11 = some m.cls := hown
  have hl : lv_has ls 1 [(0, .ref h)] := hl
  clear hsz
  refine lv_aload_n hx hb dJ11_length_0 rfl (lv_at hl 0 rfl) ?_
  refine fin_i (ws' := (fun (_ : Unit) => [oX h 12 [.ref v, .int (nI 0), .int (bI ml), .int (nI n)], aB G v 60 (nF ch)])) hA hS hP hD [0, 1] rfl [(true, 0), (true, 1)] (fun _ => rfl) (by decide) (run_SU (As := []) (rest := []) (n9 := 0) hx hb hml hown hts hE hAb hl.1 hS hP hD [0, 1] rfl (by decide) (t_J10_length l G b0 _ h v n ml ch ) (lw_SU q668 q2136 q492 q669 q125 q670) 0 rfl rfl ⟨by decide, by decide +kernel⟩ ⟨Nat.le_of_ble_eq_true rfl, Nat.le_of_ble_eq_true rfl⟩ ⟨by first | exact Nat.le_of_ble_eq_true rfl | (simp only [rm_J11_length, rm_J10_length]; omega), by first | exact Nat.le_of_ble_eq_true rfl | (simp only [rm_J11_length, rm_J10_length]; omega)⟩ dJ11_length_1 (Nat.le_of_ble_eq_true rfl) rfl rfl) (fun r_1 u_1 H locs h_1 hP hD hS => ?_)
  have hP : va_P G.1 vwCl [oX h 12 [.ref v, .int (nI 0), .int (bI ml), .int (nI n)], aB G v 60 (nF ch)] _ := hP
  have hD : va_D A [oX h 12 [.ref v, .int (nI 0), .int (bI ml), .int (nI n)], aB G v 60 (nF ch)] := hD
  have h_1 : r_1 = (nI n) := h_1
  rw [h_1]
  rw [hQQ]
  exact rt_i hx hb hr hlk  ((())) dJ11_length_4 hP hD hS (by first | exact Nat.le_of_ble_eq_true rfl | (simp only [rm_J11_length, rm_J10_length]; omega) | omega) (by first | exact Nat.le_of_ble_eq_true rfl | (simp only [rm_J11_length, rm_J10_length]; omega) | omega) (by rfl)
def rm_J10_isLatin1 : Room := ({ frames := 0, cells := 0, slots := 0, locals := 0 } : Room)
set_option maxHeartbeats 400000 in
set_option maxRecDepth 100000 in
theorem t_J10_isLatin1 (l : Launch) (G : GG) (b0 sz : Nat) (h v n : Nat) (ml : Bool) (ch : Nat → Nat) : CT l yJ10_isLatin1 cJ10_isLatin1 1 (some FieldType.boolean) (rm_J10_isLatin1) G b0 [.ref h] [oX h 12 [.ref v, .int (nI 0), .int (bI ml), .int (nI n)], aB G v 60 (nF ch)] sz (Ri G (fun (r_ : Int32) (_ : Unit) => r_ = bI true) (fun (_ : Unit) => [oX h 12 [.ref v, .int (nI 0), .int (bI ml), .int (nI n)], aB G v 60 (nF ch)])) := by
  refine CT.go (by decide) (Nat.le_of_ble_eq_true rfl) (fun p e s m below meth c A ls AR QQ hx hb hr hlk hml hown hnm hts hE hA hAb hsz hP hD hS hl hQQ => ?_)
  have hK := hE.1
  have hown : s.vm.findClass RJ10 = some m.cls := hown
  have hl : lv_has ls 1 [(0, .ref h)] := hl
  clear hsz
  refine va_gets (C := "java/lang/String") (n := "COMPACT_STRINGS") (d := "Z") (ref := "java/lang/String") hx hb (hE.2.2.2.2.2.2.nar hAb).2.1 hS hown (hts _ q470) (fun _ h_ => h_) dJ10_isLatin1_0 ?_
  refine W.eq (g2 := F0 m 3 ls [.int (nI 1)]) rfl ?_
  refine N_if_eq (tgt := 17) hx hb dJ10_isLatin1_3 (by decide) (by omega) (fun c_3 => ?_) (fun c_3 => ?_)
  · skip
    exfalso; omega
  · skip
    refine lv_aload_n hx hb dJ10_isLatin1_6 rfl (lv_at hl 0 rfl) ?_
    refine va_get (D := G.1) (ci := 12) (v := .int (nI 0)) (C := RJ11) (T := TJ11) (N := 4) hx hb hts in_J11 hown hK hP 0 rfl rfl 1 (by decide) (hts _ q480) (fun _ h9 => h9) rfl dJ10_isLatin1_7 ?_
    refine N_if_ne (tgt := 17) hx hb dJ10_isLatin1_10 (by decide) (by omega) (fun c_10 => ?_) (fun c_10 => ?_)
    · skip
      exfalso; omega
    · skip
      refine lv_iconst (v := nI 1) hx hb dJ10_isLatin1_13 (by decide) ?_
      refine lv_goto (tgt := 18) hx hb dJ10_isLatin1_14 (by decide) ?_
      rw [hQQ]
      exact rt_z hx hb hr hlk (by first | exact bI_nar _ | rfl) ((())) dJ10_isLatin1_18 hP hD hS (by first | exact Nat.le_of_ble_eq_true rfl | (simp only [rm_J10_isLatin1]; omega) | omega) (by first | exact Nat.le_of_ble_eq_true rfl | (simp only [rm_J10_isLatin1]; omega) | omega) (by rfl)
def rm_J10_ensureCapacityInternal : Room := ({ frames := 0, cells := 0, slots := 0, locals := 0 } : Room)
set_option maxHeartbeats 400000 in
set_option maxRecDepth 100000 in
theorem t_J10_ensureCapacityInternal (l : Launch) (G : GG) (b0 sz : Nat) (h v n : Nat) (ml : Bool) (ch : Nat → Nat) (m_ : Nat) (hm : m_ ≤ 60) : CT l yJ10_ensureCapacityInternal cJ10_ensureCapacityInternal 3 none (rm_J10_ensureCapacityInternal) G b0 [.ref h, .int (nI m_)] [oX h 12 [.ref v, .int (nI 0), .int (bI ml), .int (nI n)], aB G v 60 (nF ch)] sz (Rv G (fun (_ : Unit) => True) (fun (_ : Unit) => [oX h 12 [.ref v, .int (nI 0), .int (bI ml), .int (nI n)], aB G v 60 (nF ch)])) := by
  refine CT.go (by decide) (Nat.le_of_ble_eq_true rfl) (fun p e s m below meth c A ls AR QQ hx hb hr hlk hml hown hnm hts hE hA hAb hsz hP hD hS hl hQQ => ?_)
  have hK := hE.1
  have hown : s.vm.findClass RJ10 = some m.cls := hown
  have hl : lv_has ls 3 [(0, .ref h), (1, .int (nI m_))] := hl
  clear hsz
  refine lv_aload_n hx hb dJ10_ensureCapacityInternal_0 rfl (lv_at hl 0 rfl) ?_
  refine va_get (D := G.1) (ci := 12) (v := .ref v) (C := RJ11) (T := TJ11) (N := 4) hx hb hts in_J11 hown hK hP 0 rfl rfl 0 (by decide) (hts _ q479) (fun _ h9 => h9) rfl dJ10_ensureCapacityInternal_1 ?_
  refine va_alen (v := nI 60) hx hb hK hP 1 3 rfl rfl rfl dJ10_ensureCapacityInternal_4 ?_
  refine lv_aload_n hx hb dJ10_ensureCapacityInternal_5 rfl (lv_at hl 0 rfl) ?_
  refine va_get (D := G.1) (ci := 12) (v := .int (nI 0)) (C := RJ11) (T := TJ11) (N := 4) hx hb hts in_J11 hown hK hP 0 rfl rfl 1 (by decide) (hts _ q480) (fun _ h9 => h9) rfl dJ10_ensureCapacityInternal_6 ?_
  refine N_ishr hx hb dJ10_ensureCapacityInternal_9 (by omega) (by omega) ?_
  refine lv_istore_n (lv' := [(2, .int (nI (60 / 2 ^ 0))), (0, .ref h), (1, .int (nI m_))]) hx hb dJ10_ensureCapacityInternal_10 rfl hl (by decide) rfl (fun ls hl => ?_)
  refine lv_iload_n hx hb dJ10_ensureCapacityInternal_11 rfl (lv_at hl 2 rfl) ?_
  refine lv_iload_n hx hb dJ10_ensureCapacityInternal_12 rfl (lv_at hl 0 rfl) ?_
  refine lv_isub hx hb dJ10_ensureCapacityInternal_13 ?_
  refine lv_if_le (tgt := 38) hx hb dJ10_ensureCapacityInternal_14 (by decide) (fun c_14 => ?_) (fun c_14 => ?_)
  · skip
    rw [hQQ]
    exact rt_v hx hb hr hlk ((())) dJ10_ensureCapacityInternal_38 hP hD hS (by first | exact Nat.le_of_ble_eq_true rfl | (simp only [rm_J10_ensureCapacityInternal]; omega) | omega) (by first | exact Nat.le_of_ble_eq_true rfl | (simp only [rm_J10_ensureCapacityInternal]; omega) | omega) trivial
  · skip
    exfalso; exact c_14 (sub60 m_ (by omega))
def rm_J23_canEncode : Room := ({ frames := 0, cells := 0, slots := 0, locals := 0 } : Room)
set_option maxHeartbeats 400000 in
set_option maxRecDepth 100000 in
theorem t_J23_canEncode (l : Launch) (G : GG) (b0 sz : Nat) (cd : Nat) (hc : cd < 128) : CT l yJ23_canEncode cJ23_canEncode 1 (some FieldType.boolean) (rm_J23_canEncode) G b0 [.int (nI cd)] [] sz (Ri G (fun (r_ : Int32) (_ : Unit) => r_ = bI true) (fun (_ : Unit) => [])) := by
  refine CT.go (by decide) (Nat.le_of_ble_eq_true rfl) (fun p e s m below meth c A ls AR QQ hx hb hr hlk hml hown hnm hts hE hA hAb hsz hP hD hS hl hQQ => ?_)
  have hK := hE.1
  have hown : s.vm.findClass RJ23 = some m.cls := hown
  have hl : lv_has ls 1 [(0, .int (nI cd))] := hl
  clear hsz
  refine lv_iload_n hx hb dJ23_canEncode_0 rfl (lv_at hl 0 rfl) ?_
  refine lv_sipush (v := nI 255) hx hb dJ23_canEncode_1 (by decide) ?_
  refine N_icmp_gt (tgt := 11) hx hb dJ23_canEncode_4 (by decide) (by omega) (by omega) (fun c_4 => ?_) (fun c_4 => ?_)
  · skip
    exfalso; omega
  · skip
    refine lv_iconst (v := nI 1) hx hb dJ23_canEncode_7 (by decide) ?_
    refine lv_goto (tgt := 12) hx hb dJ23_canEncode_8 (by decide) ?_
    rw [hQQ]
    exact rt_z hx hb hr hlk (by first | exact bI_nar _ | rfl) ((())) dJ23_canEncode_12 hP hD hS (by first | exact Nat.le_of_ble_eq_true rfl | (simp only [rm_J23_canEncode]; omega) | omega) (by first | exact Nat.le_of_ble_eq_true rfl | (simp only [rm_J23_canEncode]; omega) | omega) (by rfl)
def rm_J10_append_3 : Room := ({ frames := 1, cells := 0, slots := 0, locals := 40 } : Room)
set_option maxHeartbeats 400000 in
set_option maxRecDepth 100000 in
theorem t_J10_append_3 (l : Launch) (G : GG) (b0 sz : Nat) (h v n : Nat) (ml : Bool) (ch : Nat → Nat) (cd : Nat) (hc : cd < 128) (hn : n < 60) : CT l yJ10_append_3 cJ10_append_3 2 (some (FieldType.object "java/lang/AbstractStringBuilder")) (rm_J10_append_3) G b0 [.ref h, .int (nI cd)] [oX h 12 [.ref v, .int (nI 0), .int (bI ml), .int (nI n)], aB G v 60 (nF ch)] sz (Rr G (fun (_ : Unit) => True) (fun (_ : Unit) => h) (fun (_ : Unit) => [oX h 12 [.ref v, .int (nI 0), .int (bI ml), .int (nI (n + 1))], aB G v 60 (nF (va_up ch n cd))])) := by
  refine CT.go (by decide) (Nat.le_of_ble_eq_true rfl) (fun p e s m below meth c A ls AR QQ hx hb hr hlk hml hown hnm hts hE hA hAb hsz hP hD hS hl hQQ => ?_)
  have hK := hE.1
  have hown : s.vm.findClass RJ10 = some m.cls := hown
  have hl : lv_has ls 2 [(0, .ref h), (1, .int (nI cd))] := hl
  clear hsz
  refine lv_aload_n hx hb dJ10_append_3_0 rfl (lv_at hl 0 rfl) ?_
  refine lv_aload_n hx hb dJ10_append_3_1 rfl (lv_at hl 0 rfl) ?_
  refine va_get (D := G.1) (ci := 12) (v := .int (nI n)) (C := RJ11) (T := TJ11) (N := 4) hx hb hts in_J11 hown hK hP 0 rfl rfl 3 (by decide) (hts _ q483) (fun _ h9 => h9) rfl dJ10_append_3_2 ?_
  refine lv_iconst (v := nI 1) hx hb dJ10_append_3_5 (by decide) ?_
  refine N_iadd hx hb dJ10_append_3_6 ?_
  refine fin_v (ws' := (fun (_ : Unit) => [oX h 12 [.ref v, .int (nI 0), .int (bI ml), .int (nI n)], aB G v 60 (nF ch)])) hA hS hP hD [0, 1] rfl [(true, 0), (true, 1)] (fun _ => rfl) (by decide) (run_PV (As := [.int (nI (n + 1))]) (rest := []) (n9 := 1) hx hb hml hown hts hE hAb hl.1 hS hP hD [0, 1] rfl (by decide) (t_J10_ensureCapacityInternal l G b0 _ h v n ml ch (n + 1) (by omega)) (lw_PV q699 q2140 q701 q125 q702) q700 0 rfl rfl ⟨by decide, by decide, by decide +kernel⟩ ⟨Nat.le_of_ble_eq_true rfl, Nat.le_of_ble_eq_true rfl⟩ ⟨by first | exact Nat.le_of_ble_eq_true rfl | (simp only [rm_J10_append_3, rm_J10_ensureCapacityInternal]; omega), by first | exact Nat.le_of_ble_eq_true rfl | (simp only [rm_J10_append_3, rm_J10_ensureCapacityInternal]; omega)⟩ dJ10_append_3_7 (Nat.le_of_ble_eq_true rfl) rfl rfl) (fun u_1 H locs h_1 hP hD hS => ?_)
  have hP : va_P G.1 vwCl [oX h 12 [.ref v, .int (nI 0), .int (bI ml), .int (nI n)], aB G v 60 (nF ch)] _ := hP
  have hD : va_D A [oX h 12 [.ref v, .int (nI 0), .int (bI ml), .int (nI n)], aB G v 60 (nF ch)] := hD
  refine lv_aload_n hx hb dJ10_append_3_10 rfl (lv_at hl 0 rfl) ?_
  refine fin_i (ws' := (fun (_ : Unit) => [oX h 12 [.ref v, .int (nI 0), .int (bI ml), .int (nI n)], aB G v 60 (nF ch)])) hA hS hP hD [0, 1] rfl [(true, 0), (true, 1)] (fun _ => rfl) (by decide) (run_U (As := []) (rest := []) (n9 := 0) hx hb hml hown hts hE hAb hl.1 hS hP hD [0, 1] rfl (by decide) (t_J10_isLatin1 l G b0 _ h v n ml ch ) (lw_U q719 q721 q722 q720 q125 q723) 0 rfl rfl ⟨by decide, by decide, by decide +kernel⟩ ⟨Nat.le_of_ble_eq_true rfl, Nat.le_of_ble_eq_true rfl⟩ ⟨by first | exact Nat.le_of_ble_eq_true rfl | (simp only [rm_J10_append_3, rm_J10_isLatin1, rm_J10_ensureCapacityInternal]; omega), by first | exact Nat.le_of_ble_eq_true rfl | (simp only [rm_J10_append_3, rm_J10_isLatin1, rm_J10_ensureCapacityInternal]; omega)⟩ dJ10_append_3_11 (Nat.le_of_ble_eq_true rfl) rfl rfl) (fun r_2 u_2 H locs h_2 hP hD hS => ?_)
  have hP : va_P G.1 vwCl [oX h 12 [.ref v, .int (nI 0), .int (bI ml), .int (nI n)], aB G v 60 (nF ch)] _ := hP
  have hD : va_D A [oX h 12 [.ref v, .int (nI 0), .int (bI ml), .int (nI n)], aB G v 60 (nF ch)] := hD
  have h_2 : r_2 = (bI true) := h_2
  rw [h_2]
  refine B_if_eq (tgt := 45) hx hb dJ10_append_3_14 (by decide) (fun c_14 => ?_) (fun c_14 => ?_)
  · skip
    exfalso; cases c_14
  · skip
    refine lv_iload_n hx hb dJ10_append_3_17 rfl (lv_at hl 1 rfl) ?_
    refine fin_i (ws' := (fun (_ : Unit) => [oX h 12 [.ref v, .int (nI 0), .int (bI ml), .int (nI n)], aB G v 60 (nF ch)])) hA hS hP hD [] rfl [(false, 0), (false, 1)] (fun _ => rfl) (by decide) (run_S (As := [.int (nI cd)]) (rest := []) (n9 := 1) hx hb hml hown hts hE hAb hl.1 hS hP hD [] rfl (by decide) (t_J23_canEncode l G b0 _ cd (by omega)) (lw_S q1462 q1463 q140 q1464) ⟨by decide, by decide, by decide +kernel⟩ ⟨Nat.le_of_ble_eq_true rfl, Nat.le_of_ble_eq_true rfl⟩ ⟨by first | exact Nat.le_of_ble_eq_true rfl | (simp only [rm_J10_append_3, rm_J23_canEncode, rm_J10_ensureCapacityInternal, rm_J10_isLatin1]; omega), by first | exact Nat.le_of_ble_eq_true rfl | (simp only [rm_J10_append_3, rm_J23_canEncode, rm_J10_ensureCapacityInternal, rm_J10_isLatin1]; omega)⟩ dJ10_append_3_18 (Nat.le_of_ble_eq_true rfl) rfl rfl) (fun r_3 u_3 H locs h_3 hP hD hS => ?_)
    have hP : va_P G.1 vwCl [oX h 12 [.ref v, .int (nI 0), .int (bI ml), .int (nI n)], aB G v 60 (nF ch)] _ := hP
    have hD : va_D A [oX h 12 [.ref v, .int (nI 0), .int (bI ml), .int (nI n)], aB G v 60 (nF ch)] := hD
    have h_3 : r_3 = (bI true) := h_3
    rw [h_3]
    refine B_if_eq (tgt := 45) hx hb dJ10_append_3_21 (by decide) (fun c_21 => ?_) (fun c_21 => ?_)
    · skip
      exfalso; cases c_21
    · skip
      refine lv_aload_n hx hb dJ10_append_3_24 rfl (lv_at hl 0 rfl) ?_
      refine va_get (D := G.1) (ci := 12) (v := .ref v) (C := RJ11) (T := TJ11) (N := 4) hx hb hts in_J11 hown hK hP 0 rfl rfl 0 (by decide) (hts _ q479) (fun _ h9 => h9) rfl dJ10_append_3_25 ?_
      refine lv_aload_n hx hb dJ10_append_3_28 rfl (lv_at hl 0 rfl) ?_
      refine lv_dup hx hb dJ10_append_3_29 rfl ?_
      refine va_get (D := G.1) (ci := 12) (v := .int (nI n)) (C := RJ11) (T := TJ11) (N := 4) hx hb hts in_J11 hown hK hP 0 rfl rfl 3 (by decide) (hts _ q483) (fun _ h9 => h9) rfl dJ10_append_3_30 ?_
      refine lv_dup_x1 hx hb dJ10_append_3_33 rfl rfl ?_
      refine lv_iconst (v := nI 1) hx hb dJ10_append_3_34 (by decide) ?_
      refine N_iadd hx hb dJ10_append_3_35 ?_
      refine va_put (D := G.1) (ci := 12) (v := .int (nI (n + 1))) (ty := .int) (C := RJ11) (T := TJ11) (N := 4) hx hb hts in_J11 tyJ11 tyJ11_ok nmJ11 hown hK hP hD hS 0 rfl rfl 3 (by decide) (hts _ q483) (fun _ h9 => h9) rfl (by decide +kernel) rfl rfl (Nat.le_of_ble_eq_true rfl) dJ10_append_3_36 (fun H locs hP hD hS => ?_)
      have hP : va_P G.1 vwCl [oX h 12 [.ref v, .int (nI 0), .int (bI ml), .int (nI (n + 1))], aB G v 60 (nF ch)] _ := hP
      have hD : va_D A [oX h 12 [.ref v, .int (nI 0), .int (bI ml), .int (nI (n + 1))], aB G v 60 (nF ch)] := hD
      refine lv_iload_n hx hb dJ10_append_3_39 rfl (lv_at hl 1 rfl) ?_
      refine lv_i2b (v := nI cd) hx hb dJ10_append_3_40 (i2b_n cd (by omega)) ?_
      refine N_bast (ws' := [oX h 12 [.ref v, .int (nI 0), .int (bI ml), .int (nI (n + 1))], aB G v 60 (upd (nF ch) n (nI cd))]) hx hb dJ10_append_3_41 hK hP hD hS 1 3 (by exact nar_b _ (by omega)) rfl rfl (by omega) (by omega) rfl (fun H locs hP hD hS => ?_)
      refine lv_goto (tgt := 75) hx hb dJ10_append_3_42 (by decide) ?_
      refine lv_aload_n hx hb dJ10_append_3_75 rfl (lv_at hl 0 rfl) ?_
      have e_4 : (upd (nF ch) n (nI cd)) = (nF (va_up ch n cd)) := by rw [nF_upd]
      have hP : va_P G.1 vwCl [oX h 12 [.ref v, .int (nI 0), .int (bI ml), .int (nI (n + 1))], aB G v 60 (nF (va_up ch n cd))] _ := cong_P (q0 := 1) (fun j _ => congrFun e_4 j) rfl rfl hP
      have hD : va_D A [oX h 12 [.ref v, .int (nI 0), .int (bI ml), .int (nI (n + 1))], aB G v 60 (nF (va_up ch n cd))] := cong_D (q0 := 1) rfl rfl hD
      have hP : va_P G.1 vwCl [oX h 12 [.ref v, .int (nI 0), .int (bI ml), .int (nI (n + 1))], aB G v 60 (nF (va_up ch n cd))] _ := hP
      have hD : va_D A [oX h 12 [.ref v, .int (nI 0), .int (bI ml), .int (nI (n + 1))], aB G v 60 (nF (va_up ch n cd))] := hD
      rw [hQQ]
      exact rt_r hx hb hr hlk (by first | exact Or.inl ⟨_, rfl⟩ | exact Or.inr ⟨_, rfl⟩) ((())) dJ10_append_3_76 hP hD hS (by first | exact Nat.le_of_ble_eq_true rfl | (simp only [rm_J10_append_3, rm_J10_ensureCapacityInternal, rm_J10_isLatin1, rm_J23_canEncode]; omega) | omega) (by first | exact Nat.le_of_ble_eq_true rfl | (simp only [rm_J10_append_3, rm_J10_ensureCapacityInternal, rm_J10_isLatin1, rm_J23_canEncode]; omega) | omega) (by rfl) trivial
def rm_J11_append_3 : Room := ({ frames := 2, cells := 0, slots := 0, locals := 70 } : Room)
set_option maxHeartbeats 400000 in
set_option maxRecDepth 100000 in
theorem t_J11_append_3 (l : Launch) (G : GG) (b0 sz : Nat) (h v n : Nat) (ml : Bool) (ch : Nat → Nat) (cd : Nat) (hc : cd < 128) (hn : n < 60) : CT l yJ11_append_3 cJ11_append_3 2 (some (FieldType.object "java/lang/StringBuilder")) (rm_J11_append_3) G b0 [.ref h, .int (nI cd)] [oX h 12 [.ref v, .int (nI 0), .int (bI ml), .int (nI n)], aB G v 60 (nF ch)] sz (Rr G (fun (_ : Unit) => True) (fun (_ : Unit) => h) (fun (_ : Unit) => [oX h 12 [.ref v, .int (nI 0), .int (bI ml), .int (nI (n + 1))], aB G v 60 (nF (va_up ch n cd))])) := by
  refine CT.go (by decide) (Nat.le_of_ble_eq_true rfl) (fun p e s m below meth c A ls AR QQ hx hb hr hlk hml hown hnm hts hE hA hAb hsz hP hD hS hl hQQ => ?_)
  have hK := hE.1
  have hown : s.vm.findClass RJ11 = some m.cls := hown
  have hl : lv_has ls 2 [(0, .ref h), (1, .int (nI cd))] := hl
  clear hsz
  refine lv_aload_n hx hb dJ11_append_3_0 rfl (lv_at hl 0 rfl) ?_
  refine lv_iload_n hx hb dJ11_append_3_1 rfl (lv_at hl 1 rfl) ?_
  refine fin_r (ws' := (fun (_ : Unit) => [oX h 12 [.ref v, .int (nI 0), .int (bI ml), .int (nI (n + 1))], aB G v 60 (nF (va_up ch n cd))])) hA hS hP hD [0, 1] rfl [(true, 0), (true, 1)] (fun _ => rfl) (by decide) (run_SU (As := [.int (nI cd)]) (rest := []) (n9 := 1) hx hb hml hown hts hE hAb hl.1 hS hP hD [0, 1] rfl (by decide) (t_J10_append_3 l G b0 _ h v n ml ch cd (by omega) (by omega)) (lw_SU q1459 q2148 q492 q1460 q125 q1461) 0 rfl rfl ⟨by decide, by decide +kernel⟩ ⟨Nat.le_of_ble_eq_true rfl, Nat.le_of_ble_eq_true rfl⟩ ⟨by first | exact Nat.le_of_ble_eq_true rfl | (simp only [rm_J11_append_3, rm_J10_append_3]; omega), by first | exact Nat.le_of_ble_eq_true rfl | (simp only [rm_J11_append_3, rm_J10_append_3]; omega)⟩ dJ11_append_3_2 (Nat.le_of_ble_eq_true rfl) rfl rfl) (fun u_1 H locs h_1 hP hD hS => ?_)
  have hP : va_P G.1 vwCl [oX h 12 [.ref v, .int (nI 0), .int (bI ml), .int (nI (n + 1))], aB G v 60 (nF (va_up ch n cd))] _ := hP
  have hD : va_D A [oX h 12 [.ref v, .int (nI 0), .int (bI ml), .int (nI (n + 1))], aB G v 60 (nF (va_up ch n cd))] := hD
  refine W.eq (g2 := F0 m 5 ls [.ref h]) rfl ?_
  refine lv_pop hx hb dJ11_append_3_5 rfl ?_
  refine lv_aload_n hx hb dJ11_append_3_6 rfl (lv_at hl 0 rfl) ?_
  rw [hQQ]
  exact rt_r hx hb hr hlk (by first | exact Or.inl ⟨_, rfl⟩ | exact Or.inr ⟨_, rfl⟩) ((())) dJ11_append_3_7 hP hD hS (by first | exact Nat.le_of_ble_eq_true rfl | (simp only [rm_J11_append_3, rm_J10_append_3]; omega) | omega) (by first | exact Nat.le_of_ble_eq_true rfl | (simp only [rm_J11_append_3, rm_J10_append_3]; omega) | omega) (by rfl) trivial
def rm_J10_setLength : Room := ({ frames := 1, cells := 0, slots := 0, locals := 40 } : Room)
set_option maxHeartbeats 400000 in
set_option maxRecDepth 100000 in
theorem t_J10_setLength (l : Launch) (G : GG) (b0 sz : Nat) (h v n : Nat) (ml : Bool) (ch : Nat → Nat) (hn : n ≤ 60) : CT l yJ10_setLength cJ10_setLength 2 none (rm_J10_setLength) G b0 [.ref h, .int (nI 0)] [oX h 12 [.ref v, .int (nI 0), .int (bI ml), .int (nI n)], aB G v 60 (nF ch)] sz (Rv G (fun (u : Bool) => True) (fun (u : Bool) => [oX h 12 [.ref v, .int (nI 0), .int (bI u), .int (nI 0)], aB G v 60 (nF ch)])) := by
  refine CT.go (by decide) (Nat.le_of_ble_eq_true rfl) (fun p e s m below meth c A ls AR QQ hx hb hr hlk hml hown hnm hts hE hA hAb hsz hP hD hS hl hQQ => ?_)
  have hK := hE.1
  have hown : s.vm.findClass RJ10 = some m.cls := hown
  have hl : lv_has ls 2 [(0, .ref h), (1, .int (nI 0))] := hl
  clear hsz
  refine lv_iload_n hx hb dJ10_setLength_0 rfl (lv_at hl 1 rfl) ?_
  refine N_if_ge (tgt := 13) hx hb dJ10_setLength_1 (by decide) (by omega) ?_
  refine lv_aload_n hx hb dJ10_setLength_13 rfl (lv_at hl 0 rfl) ?_
  refine lv_iload_n hx hb dJ10_setLength_14 rfl (lv_at hl 1 rfl) ?_
  refine fin_v (ws' := (fun (_ : Unit) => [oX h 12 [.ref v, .int (nI 0), .int (bI ml), .int (nI n)], aB G v 60 (nF ch)])) hA hS hP hD [0, 1] rfl [(true, 0), (true, 1)] (fun _ => rfl) (by decide) (run_PV (As := [.int (nI 0)]) (rest := []) (n9 := 1) hx hb hml hown hts hE hAb hl.1 hS hP hD [0, 1] rfl (by decide) (t_J10_ensureCapacityInternal l G b0 _ h v n ml ch 0 (by omega)) (lw_PV q699 q2140 q701 q125 q702) q700 0 rfl rfl ⟨by decide, by decide, by decide +kernel⟩ ⟨Nat.le_of_ble_eq_true rfl, Nat.le_of_ble_eq_true rfl⟩ ⟨by first | exact Nat.le_of_ble_eq_true rfl | (simp only [rm_J10_setLength, rm_J10_ensureCapacityInternal]; omega), by first | exact Nat.le_of_ble_eq_true rfl | (simp only [rm_J10_setLength, rm_J10_ensureCapacityInternal]; omega)⟩ dJ10_setLength_15 (Nat.le_of_ble_eq_true rfl) rfl rfl) (fun u_1 H locs h_1 hP hD hS => ?_)
  have hP : va_P G.1 vwCl [oX h 12 [.ref v, .int (nI 0), .int (bI ml), .int (nI n)], aB G v 60 (nF ch)] _ := hP
  have hD : va_D A [oX h 12 [.ref v, .int (nI 0), .int (bI ml), .int (nI n)], aB G v 60 (nF ch)] := hD
  refine lv_aload_n hx hb dJ10_setLength_18 rfl (lv_at hl 0 rfl) ?_
  refine va_get (D := G.1) (ci := 12) (v := .int (nI n)) (C := RJ11) (T := TJ11) (N := 4) hx hb hts in_J11 hown hK hP 0 rfl rfl 3 (by decide) (hts _ q483) (fun _ h9 => h9) rfl dJ10_setLength_19 ?_
  refine lv_iload_n hx hb dJ10_setLength_22 rfl (lv_at hl 1 rfl) ?_
  refine N_icmp_ge (tgt := 63) hx hb dJ10_setLength_23 (by decide) (by omega) (by omega) (fun c_23 => ?_) (fun c_23 => ?_)
  · skip
    refine lv_aload_n hx hb dJ10_setLength_63 rfl (lv_at hl 0 rfl) ?_
    refine va_get (D := G.1) (ci := 12) (v := .int (nI n)) (C := RJ11) (T := TJ11) (N := 4) hx hb hts in_J11 hown hK hP 0 rfl rfl 3 (by decide) (hts _ q483) (fun _ h9 => h9) rfl dJ10_setLength_64 ?_
    refine lv_iload_n hx hb dJ10_setLength_67 rfl (lv_at hl 1 rfl) ?_
    refine N_icmp_le (tgt := 76) hx hb dJ10_setLength_68 (by decide) (by omega) (by omega) (fun c_68 => ?_) (fun c_68 => ?_)
    · skip
      refine lv_aload_n hx hb dJ10_setLength_76 rfl (lv_at hl 0 rfl) ?_
      refine lv_iload_n hx hb dJ10_setLength_77 rfl (lv_at hl 1 rfl) ?_
      refine va_put (D := G.1) (ci := 12) (v := .int (nI 0)) (ty := .int) (C := RJ11) (T := TJ11) (N := 4) hx hb hts in_J11 tyJ11 tyJ11_ok nmJ11 hown hK hP hD hS 0 rfl rfl 3 (by decide) (hts _ q483) (fun _ h9 => h9) rfl (by decide +kernel) rfl rfl (Nat.le_of_ble_eq_true rfl) dJ10_setLength_78 (fun H locs hP hD hS => ?_)
      have hP : va_P G.1 vwCl [oX h 12 [.ref v, .int (nI 0), .int (bI ml), .int (nI 0)], aB G v 60 (nF ch)] _ := hP
      have hD : va_D A [oX h 12 [.ref v, .int (nI 0), .int (bI ml), .int (nI 0)], aB G v 60 (nF ch)] := hD
      rw [hQQ]
      exact rt_v hx hb hr hlk ml dJ10_setLength_81 hP hD hS (by first | exact Nat.le_of_ble_eq_true rfl | (simp only [rm_J10_setLength, rm_J10_ensureCapacityInternal]; omega) | omega) (by first | exact Nat.le_of_ble_eq_true rfl | (simp only [rm_J10_setLength, rm_J10_ensureCapacityInternal]; omega) | omega) trivial
    · skip
      refine lv_aload_n hx hb dJ10_setLength_71 rfl (lv_at hl 0 rfl) ?_
      refine lv_iconst (v := nI 1) hx hb dJ10_setLength_72 (by decide) ?_
      refine va_put (D := G.1) (ci := 12) (v := .int (bI true)) (ty := .boolean) (C := RJ11) (T := TJ11) (N := 4) hx hb hts in_J11 tyJ11 tyJ11_ok nmJ11 hown hK hP hD hS 0 rfl rfl 2 (by decide) (hts _ q481) (fun _ h9 => h9) rfl (by decide +kernel) (bI_nar _) rfl (Nat.le_of_ble_eq_true rfl) dJ10_setLength_73 (fun H locs hP hD hS => ?_)
      have hP : va_P G.1 vwCl [oX h 12 [.ref v, .int (nI 0), .int (bI true), .int (nI n)], aB G v 60 (nF ch)] _ := hP
      have hD : va_D A [oX h 12 [.ref v, .int (nI 0), .int (bI true), .int (nI n)], aB G v 60 (nF ch)] := hD
      refine lv_aload_n hx hb dJ10_setLength_76 rfl (lv_at hl 0 rfl) ?_
      refine lv_iload_n hx hb dJ10_setLength_77 rfl (lv_at hl 1 rfl) ?_
      refine va_put (D := G.1) (ci := 12) (v := .int (nI 0)) (ty := .int) (C := RJ11) (T := TJ11) (N := 4) hx hb hts in_J11 tyJ11 tyJ11_ok nmJ11 hown hK hP hD hS 0 rfl rfl 3 (by decide) (hts _ q483) (fun _ h9 => h9) rfl (by decide +kernel) rfl rfl (Nat.le_of_ble_eq_true rfl) dJ10_setLength_78 (fun H locs hP hD hS => ?_)
      have hP : va_P G.1 vwCl [oX h 12 [.ref v, .int (nI 0), .int (bI true), .int (nI 0)], aB G v 60 (nF ch)] _ := hP
      have hD : va_D A [oX h 12 [.ref v, .int (nI 0), .int (bI true), .int (nI 0)], aB G v 60 (nF ch)] := hD
      rw [hQQ]
      exact rt_v hx hb hr hlk true dJ10_setLength_81 hP hD hS (by first | exact Nat.le_of_ble_eq_true rfl | (simp only [rm_J10_setLength, rm_J10_ensureCapacityInternal]; omega) | omega) (by first | exact Nat.le_of_ble_eq_true rfl | (simp only [rm_J10_setLength, rm_J10_ensureCapacityInternal]; omega) | omega) trivial
  · skip
    exfalso; omega
def rm_J11_setLength : Room := ({ frames := 2, cells := 0, slots := 0, locals := 70 } : Room)
set_option maxHeartbeats 400000 in
set_option maxRecDepth 100000 in
theorem t_J11_setLength (l : Launch) (G : GG) (b0 sz : Nat) (h v n : Nat) (ml : Bool) (ch : Nat → Nat) (hn : n ≤ 60) : CT l yJ11_setLength cJ11_setLength 2 none (rm_J11_setLength) G b0 [.ref h, .int (nI 0)] [oX h 12 [.ref v, .int (nI 0), .int (bI ml), .int (nI n)], aB G v 60 (nF ch)] sz (Rv G (fun (u : Bool) => True) (fun (u : Bool) => [oX h 12 [.ref v, .int (nI 0), .int (bI u), .int (nI 0)], aB G v 60 (nF ch)])) := by
  refine CT.go (by decide) (Nat.le_of_ble_eq_true rfl) (fun p e s m below meth c A ls AR QQ hx hb hr hlk hml hown hnm hts hE hA hAb hsz hP hD hS hl hQQ => ?_)
  have hK := hE.1
  have hown : s.vm.findClass RJ11 = some m.cls := hown
  have hl : lv_has ls 2 [(0, .ref h), (1, .int (nI 0))] := hl
  clear hsz
  refine lv_aload_n hx hb dJ11_setLength_0 rfl (lv_at hl 0 rfl) ?_
  refine lv_iload_n hx hb dJ11_setLength_1 rfl (lv_at hl 1 rfl) ?_
  refine fin_v (ws' := (fun (u_1 : Bool) => [oX h 12 [.ref v, .int (nI 0), .int (bI u_1), .int (nI 0)], aB G v 60 (nF ch)])) hA hS hP hD [0, 1] rfl [(true, 0), (true, 1)] (fun _ => rfl) (by decide) (run_SU (As := [.int (nI 0)]) (rest := []) (n9 := 1) hx hb hml hown hts hE hAb hl.1 hS hP hD [0, 1] rfl (by decide) (t_J10_setLength l G b0 _ h v n ml ch (by omega)) (lw_SU q675 q2137 q492 q676 q125 q677) 0 rfl rfl ⟨by decide, by decide +kernel⟩ ⟨Nat.le_of_ble_eq_true rfl, Nat.le_of_ble_eq_true rfl⟩ ⟨by first | exact Nat.le_of_ble_eq_true rfl | (simp only [rm_J11_setLength, rm_J10_setLength]; omega), by first | exact Nat.le_of_ble_eq_true rfl | (simp only [rm_J11_setLength, rm_J10_setLength]; omega)⟩ dJ11_setLength_2 (Nat.le_of_ble_eq_true rfl) rfl rfl) (fun u_1 H locs h_1 hP hD hS => ?_)
  have hP : va_P G.1 vwCl [oX h 12 [.ref v, .int (nI 0), .int (bI u_1), .int (nI 0)], aB G v 60 (nF ch)] _ := hP
  have hD : va_D A [oX h 12 [.ref v, .int (nI 0), .int (bI u_1), .int (nI 0)], aB G v 60 (nF ch)] := hD
  rw [hQQ]
  exact rt_v hx hb hr hlk u_1 dJ11_setLength_5 hP hD hS (by first | exact Nat.le_of_ble_eq_true rfl | (simp only [rm_J11_setLength, rm_J10_setLength]; omega) | omega) (by first | exact Nat.le_of_ble_eq_true rfl | (simp only [rm_J11_setLength, rm_J10_setLength]; omega) | omega) trivial
def rm_J12_checkIndex : Room := ({ frames := 1, cells := 0, slots := 0, locals := 40 } : Room)
set_option maxHeartbeats 400000 in
set_option maxRecDepth 100000 in
theorem t_J12_checkIndex (l : Launch) (G : GG) (b0 sz : Nat) (i n : Nat) (hi : i < n) (hn : n < 100000) : CT l yJ12_checkIndex cJ12_checkIndex 2 none (rm_J12_checkIndex) G b0 [.int (nI i), .int (nI n)] [] sz (Rv G (fun (_ : Unit) => True) (fun (_ : Unit) => [])) := by
  refine CT.go (by decide) (Nat.le_of_ble_eq_true rfl) (fun p e s m below meth c A ls AR QQ hx hb hr hlk hml hown hnm hts hE hA hAb hsz hP hD hS hl hQQ => ?_)
  have hK := hE.1
  have hown : s.vm.findClass RJ12 = some m.cls := hown
  have hl : lv_has ls 2 [(0, .int (nI i)), (1, .int (nI n))] := hl
  clear hsz
  refine lv_iload_n hx hb dJ12_checkIndex_0 rfl (lv_at hl 0 rfl) ?_
  refine lv_iload_n hx hb dJ12_checkIndex_1 rfl (lv_at hl 1 rfl) ?_
  rcases (hE.2.2.2.2.2.2.nar hAb).2.2.2.2.2.2.2.2.2.2.2.2 with hz9 | ⟨t9, hz9⟩
  · refine va_gets (C := "jdk/internal/util/Preconditions") (n := "SIOOBE_FORMATTER") (d := "Ljava/util/function/BiFunction;") (ref := "jdk/internal/util/Preconditions") hx hb hz9 hS hown (hts _ q736) (fun _ h_ => h_) dJ12_checkIndex_2 ?_
    refine fin_i (ws' := (fun (_ : Unit) => [])) hA hS hP hD [] rfl [] (fun _ => rfl) (by decide) (run_S (As := [.int (nI i), .int (nI n), .null]) (rest := []) (n9 := 3) hx hb hml hown hts hE hAb hl.1 hS hP hD [] rfl (by decide) (t_J18_checkIndex_n l G b0 _ i n (by omega) (by omega)) (lw_S q1000 q552 q134 q553) ⟨by decide, by decide, by decide +kernel⟩ ⟨Nat.le_of_ble_eq_true rfl, Nat.le_of_ble_eq_true rfl⟩ ⟨by first | exact Nat.le_of_ble_eq_true rfl | (simp only [rm_J12_checkIndex, rm_J18_checkIndex_n]; omega), by first | exact Nat.le_of_ble_eq_true rfl | (simp only [rm_J12_checkIndex, rm_J18_checkIndex_n]; omega)⟩ dJ12_checkIndex_5 (Nat.le_of_ble_eq_true rfl) rfl rfl) (fun r_1 u_1 H locs h_1 hP hD hS => ?_)
    have hP : va_P G.1 vwCl [] _ := hP
    have hD : va_D A [] := hD
    have h_1 : r_1 = (nI i) := h_1
    rw [h_1]
    refine lv_pop hx hb dJ12_checkIndex_8 rfl ?_
    rw [hQQ]
    exact rt_v hx hb hr hlk ((())) dJ12_checkIndex_9 hP hD hS (by first | exact Nat.le_of_ble_eq_true rfl | (simp only [rm_J12_checkIndex, rm_J18_checkIndex_n]; omega) | omega) (by first | exact Nat.le_of_ble_eq_true rfl | (simp only [rm_J12_checkIndex, rm_J18_checkIndex_n]; omega) | omega) trivial
  · refine va_gets (C := "jdk/internal/util/Preconditions") (n := "SIOOBE_FORMATTER") (d := "Ljava/util/function/BiFunction;") (ref := "jdk/internal/util/Preconditions") hx hb hz9 hS hown (hts _ q736) (fun _ h_ => h_) dJ12_checkIndex_2 ?_
    refine fin_i (ws' := (fun (_ : Unit) => [])) hA hS hP hD [] rfl [] (fun _ => rfl) (by decide) (run_S (As := [.int (nI i), .int (nI n), .ref t9]) (rest := []) (n9 := 3) hx hb hml hown hts hE hAb hl.1 hS hP hD [] rfl (by decide) (t_J18_checkIndex_r l G b0 _ i n t9 (by omega) (by omega)) (lw_S q1000 q552 q134 q553) ⟨by decide, by decide, by decide +kernel⟩ ⟨Nat.le_of_ble_eq_true rfl, Nat.le_of_ble_eq_true rfl⟩ ⟨by first | exact Nat.le_of_ble_eq_true rfl | (simp only [rm_J12_checkIndex, rm_J18_checkIndex_r, rm_J18_checkIndex_n]; omega), by first | exact Nat.le_of_ble_eq_true rfl | (simp only [rm_J12_checkIndex, rm_J18_checkIndex_r, rm_J18_checkIndex_n]; omega)⟩ dJ12_checkIndex_5 (Nat.le_of_ble_eq_true rfl) rfl rfl) (fun r_2 u_2 H locs h_2 hP hD hS => ?_)
    have hP : va_P G.1 vwCl [] _ := hP
    have hD : va_D A [] := hD
    have h_2 : r_2 = (nI i) := h_2
    rw [h_2]
    refine lv_pop hx hb dJ12_checkIndex_8 rfl ?_
    rw [hQQ]
    exact rt_v hx hb hr hlk ((())) dJ12_checkIndex_9 hP hD hS (by first | exact Nat.le_of_ble_eq_true rfl | (simp only [rm_J12_checkIndex, rm_J18_checkIndex_n, rm_J18_checkIndex_r]; omega) | omega) (by first | exact Nat.le_of_ble_eq_true rfl | (simp only [rm_J12_checkIndex, rm_J18_checkIndex_n, rm_J18_checkIndex_r]; omega) | omega) trivial
def rm_J10_charAt : Room := ({ frames := 2, cells := 0, slots := 0, locals := 80 } : Room)
set_option maxHeartbeats 400000 in
set_option maxRecDepth 100000 in
theorem t_J10_charAt (l : Launch) (G : GG) (b0 sz : Nat) (h v n : Nat) (ml : Bool) (ch : Nat → Nat) (i : Nat) (hi : i < n) (hn : n ≤ 60) (hch : ch i ≤ 126) : CT l yJ10_charAt cJ10_charAt 5 (some FieldType.char) (rm_J10_charAt) G b0 [.ref h, .int (nI i)] [oX h 12 [.ref v, .int (nI 0), .int (bI ml), .int (nI n)], aB G v 60 (nF ch)] sz (Ri G (fun (r_ : Int32) (_ : Unit) => r_ = nI (ch i)) (fun (_ : Unit) => [oX h 12 [.ref v, .int (nI 0), .int (bI ml), .int (nI n)], aB G v 60 (nF ch)])) := by
  refine CT.go (by decide) (Nat.le_of_ble_eq_true rfl) (fun p e s m below meth c A ls AR QQ hx hb hr hlk hml hown hnm hts hE hA hAb hsz hP hD hS hl hQQ => ?_)
  have hK := hE.1
  have hown : s.vm.findClass RJ10 = some m.cls := hown
  have hl : lv_has ls 5 [(0, .ref h), (1, .int (nI i))] := hl
  clear hsz
  refine lv_aload_n hx hb dJ10_charAt_0 rfl (lv_at hl 0 rfl) ?_
  refine va_get (D := G.1) (ci := 12) (v := .int (nI 0)) (C := RJ11) (T := TJ11) (N := 4) hx hb hts in_J11 hown hK hP 0 rfl rfl 1 (by decide) (hts _ q480) (fun _ h9 => h9) rfl dJ10_charAt_1 ?_
  refine lv_istore_n (lv' := [(2, .int (nI 0)), (0, .ref h), (1, .int (nI i))]) hx hb dJ10_charAt_4 rfl hl (by decide) rfl (fun ls hl => ?_)
  refine lv_aload_n hx hb dJ10_charAt_5 rfl (lv_at hl 1 rfl) ?_
  refine va_get (D := G.1) (ci := 12) (v := .ref v) (C := RJ11) (T := TJ11) (N := 4) hx hb hts in_J11 hown hK hP 0 rfl rfl 0 (by decide) (hts _ q479) (fun _ h9 => h9) rfl dJ10_charAt_6 ?_
  refine lv_astore_n (lv' := [(3, .ref v), (2, .int (nI 0)), (0, .ref h), (1, .int (nI i))]) hx hb dJ10_charAt_9 rfl hl (by decide) rfl (fun ls hl => ?_)
  refine lv_aload_n hx hb dJ10_charAt_10 rfl (lv_at hl 2 rfl) ?_
  refine va_get (D := G.1) (ci := 12) (v := .int (nI n)) (C := RJ11) (T := TJ11) (N := 4) hx hb hts in_J11 hown hK hP 0 rfl rfl 3 (by decide) (hts _ q483) (fun _ h9 => h9) rfl dJ10_charAt_11 ?_
  refine lv_aload_n hx hb dJ10_charAt_14 rfl (lv_at hl 0 rfl) ?_
  refine va_alen (v := nI 60) hx hb hK hP 1 3 rfl rfl rfl dJ10_charAt_15 ?_
  refine lv_iload_n hx hb dJ10_charAt_16 rfl (lv_at hl 1 rfl) ?_
  refine N_ishr hx hb dJ10_charAt_17 (by omega) (by omega) ?_
  refine M_min hx hb (hml.trans hl.1.symm) hown hts q996 q627 q137 q628 (Nat.le_of_ble_eq_true rfl) (Nat.le_of_ble_eq_true rfl) (by first | exact Nat.le_of_ble_eq_true rfl | omega | (simp only [rm_J10_charAt]; omega)) (by first | exact Nat.le_of_ble_eq_true rfl | omega | (simp only [rm_J10_charAt]; omega)) dJ10_charAt_18 ?_
  refine W.eq (g2 := F0 m 21 ls [.int (nI n)]) (by rw [min_n (by omega) (by decide)]) ?_
  refine lv_istore (lv' := [(4, .int (nI n)), (3, .ref v), (2, .int (nI 0)), (0, .ref h), (1, .int (nI i))]) hx hb dJ10_charAt_21 hl (by decide) rfl (fun ls hl => ?_)
  refine lv_iload_n hx hb dJ10_charAt_23 rfl (lv_at hl 4 rfl) ?_
  refine lv_iload hx hb dJ10_charAt_24 (lv_at hl 0 rfl) ?_
  refine fin_v (ws' := (fun (_ : Unit) => [oX h 12 [.ref v, .int (nI 0), .int (bI ml), .int (nI n)], aB G v 60 (nF ch)])) hA hS hP hD [] rfl [(false, 0), (false, 1)] (fun _ => rfl) (by decide) (run_S (As := [.int (nI i), .int (nI n)]) (rest := []) (n9 := 2) hx hb hml hown hts hE hAb hl.1 hS hP hD [] rfl (by decide) (t_J12_checkIndex l G b0 _ i n (by omega) (by omega)) (lw_S q997 q998 q127 q999) ⟨by decide, by decide, by decide +kernel⟩ ⟨Nat.le_of_ble_eq_true rfl, Nat.le_of_ble_eq_true rfl⟩ ⟨by first | exact Nat.le_of_ble_eq_true rfl | (simp only [rm_J10_charAt, rm_J12_checkIndex]; omega), by first | exact Nat.le_of_ble_eq_true rfl | (simp only [rm_J10_charAt, rm_J12_checkIndex]; omega)⟩ dJ10_charAt_26 (Nat.le_of_ble_eq_true rfl) rfl rfl) (fun u_1 H locs h_1 hP hD hS => ?_)
  have hP : va_P G.1 vwCl [oX h 12 [.ref v, .int (nI 0), .int (bI ml), .int (nI n)], aB G v 60 (nF ch)] _ := hP
  have hD : va_D A [oX h 12 [.ref v, .int (nI 0), .int (bI ml), .int (nI n)], aB G v 60 (nF ch)] := hD
  refine lv_iload_n hx hb dJ10_charAt_29 rfl (lv_at hl 2 rfl) ?_
  refine N_if_ne (tgt := 42) hx hb dJ10_charAt_30 (by decide) (by omega) (fun c_30 => ?_) (fun c_30 => ?_)
  · skip
    exfalso; omega
  · skip
    refine lv_aload_n hx hb dJ10_charAt_33 rfl (lv_at hl 1 rfl) ?_
    refine lv_iload_n hx hb dJ10_charAt_34 rfl (lv_at hl 4 rfl) ?_
    refine N_bald hx hb dJ10_charAt_35 hK hP 1 3 rfl rfl (by omega) (by omega) ?_
    refine W.eq (g2 := F0 m 36 ls [.int (nI (ch i))]) rfl ?_
    refine lv_sipush (v := nI 255) hx hb dJ10_charAt_36 (by decide) ?_
    refine lv_iand hx hb dJ10_charAt_39 ?_
    refine W.eq (g2 := F0 m 40 ls [.int (nI (ch i))]) (by rw [and255 _ (by omega)]) ?_
    refine lv_i2c (v := nI (ch i)) hx hb dJ10_charAt_40 (by exact cast_c (by omega)) ?_
    rw [hQQ]
    exact rt_z hx hb hr hlk (by exact nar_c (by omega)) ((())) dJ10_charAt_41 hP hD hS (by first | exact Nat.le_of_ble_eq_true rfl | (simp only [rm_J10_charAt, rm_J12_checkIndex]; omega) | omega) (by first | exact Nat.le_of_ble_eq_true rfl | (simp only [rm_J10_charAt, rm_J12_checkIndex]; omega) | omega) (by rfl)
def rm_J11_charAt : Room := ({ frames := 3, cells := 0, slots := 0, locals := 110 } : Room)
set_option maxHeartbeats 400000 in
set_option maxRecDepth 100000 in
theorem t_J11_charAt (l : Launch) (G : GG) (b0 sz : Nat) (h v n : Nat) (ml : Bool) (ch : Nat → Nat) (i : Nat) (hi : i < n) (hn : n ≤ 60) (hch : ch i ≤ 126) : CT l yJ11_charAt cJ11_charAt 2 (some FieldType.char) (rm_J11_charAt) G b0 [.ref h, .int (nI i)] [oX h 12 [.ref v, .int (nI 0), .int (bI ml), .int (nI n)], aB G v 60 (nF ch)] sz (Ri G (fun (r_ : Int32) (_ : Unit) => r_ = nI (ch i)) (fun (_ : Unit) => [oX h 12 [.ref v, .int (nI 0), .int (bI ml), .int (nI n)], aB G v 60 (nF ch)])) := by
  refine CT.go (by decide) (Nat.le_of_ble_eq_true rfl) (fun p e s m below meth c A ls AR QQ hx hb hr hlk hml hown hnm hts hE hA hAb hsz hP hD hS hl hQQ => ?_)
  have hK := hE.1
  have hown : s.vm.findClass RJ11 = some m.cls := hown
  have hl : lv_has ls 2 [(0, .ref h), (1, .int (nI i))] := hl
  clear hsz
  refine lv_aload_n hx hb dJ11_charAt_0 rfl (lv_at hl 0 rfl) ?_
  refine lv_iload_n hx hb dJ11_charAt_1 rfl (lv_at hl 1 rfl) ?_
  refine fin_i (ws' := (fun (_ : Unit) => [oX h 12 [.ref v, .int (nI 0), .int (bI ml), .int (nI n)], aB G v 60 (nF ch)])) hA hS hP hD [0, 1] rfl [(true, 0), (true, 1)] (fun _ => rfl) (by decide) (run_SU (As := [.int (nI i)]) (rest := []) (n9 := 1) hx hb hml hown hts hE hAb hl.1 hS hP hD [0, 1] rfl (by decide) (t_J10_charAt l G b0 _ h v n ml ch i (by omega) (by omega) (by omega)) (lw_SU q993 q2147 q492 q994 q125 q995) 0 rfl rfl ⟨by decide, by decide +kernel⟩ ⟨Nat.le_of_ble_eq_true rfl, Nat.le_of_ble_eq_true rfl⟩ ⟨by first | exact Nat.le_of_ble_eq_true rfl | (simp only [rm_J11_charAt, rm_J10_charAt]; omega), by first | exact Nat.le_of_ble_eq_true rfl | (simp only [rm_J11_charAt, rm_J10_charAt]; omega)⟩ dJ11_charAt_2 (Nat.le_of_ble_eq_true rfl) rfl rfl) (fun r_1 u_1 H locs h_1 hP hD hS => ?_)
  have hP : va_P G.1 vwCl [oX h 12 [.ref v, .int (nI 0), .int (bI ml), .int (nI n)], aB G v 60 (nF ch)] _ := hP
  have hD : va_D A [oX h 12 [.ref v, .int (nI 0), .int (bI ml), .int (nI n)], aB G v 60 (nF ch)] := hD
  have h_1 : r_1 = (nI (ch i)) := h_1
  rw [h_1]
  rw [hQQ]
  exact rt_z hx hb hr hlk (by exact nar_c (by omega)) ((())) dJ11_charAt_5 hP hD hS (by first | exact Nat.le_of_ble_eq_true rfl | (simp only [rm_J11_charAt, rm_J10_charAt]; omega) | omega) (by first | exact Nat.le_of_ble_eq_true rfl | (simp only [rm_J11_charAt, rm_J10_charAt]; omega) | omega) (by rfl)
def rm_J10_init : Room := ({ frames := 1, cells := 1, slots := 60, locals := 40 } : Room)
set_option maxHeartbeats 400000 in
set_option maxRecDepth 100000 in
theorem t_J10_init (l : Launch) (G : GG) (b0 sz : Nat) (h : Nat) : CT l yJ10_init cJ10_init 2 none (rm_J10_init) G b0 [.ref h, .int (nI 60)] [oX h 12 [.null, .int (nI 0), .int (bI false), .int (nI 0)]] sz (Rv G (fun (u : Nat) => True) (fun (u : Nat) => [oX h 12 [.ref u, .int (nI 0), .int (bI false), .int (nI 0)], aB G u 60 (fun _ => 0)])) := by
  refine CT.go (by decide) (Nat.le_of_ble_eq_true rfl) (fun p e s m below meth c A ls AR QQ hx hb hr hlk hml hown hnm hts hE hA hAb hsz hP hD hS hl hQQ => ?_)
  have hK := hE.1
  have hown : s.vm.findClass RJ10 = some m.cls := hown
  have hl : lv_has ls 2 [(0, .ref h), (1, .int (nI 60))] := hl
  clear hsz
  refine lv_aload_n hx hb dJ10_init_0 rfl (lv_at hl 0 rfl) ?_
  refine O_init hx hb (hml.trans hl.1.symm) hown hts q469 q150 q151 dJ10_init_1 (Nat.le_of_ble_eq_true rfl) (Nat.le_of_ble_eq_true rfl) ?_
  refine va_gets (C := "java/lang/String") (n := "COMPACT_STRINGS") (d := "Z") (ref := "java/lang/String") hx hb (hE.2.2.2.2.2.2.nar hAb).2.1 hS hown (hts _ q470) (fun _ h_ => h_) dJ10_init_4 ?_
  refine W.eq (g2 := F0 m 7 ls [.int (nI 1)]) rfl ?_
  refine N_if_eq (tgt := 25) hx hb dJ10_init_7 (by decide) (by omega) (fun c_7 => ?_) (fun c_7 => ?_)
  · skip
    exfalso; omega
  · skip
    refine lv_aload_n hx hb dJ10_init_10 rfl (lv_at hl 0 rfl) ?_
    refine lv_iload_n hx hb dJ10_init_11 rfl (lv_at hl 1 rfl) ?_
    refine A_newa (atype := .byte) (ty := .byte) (a9 := (60, .inl (fun _ => 0))) (t0 := 3) hx hb hts q493 rfl (fun _ h_ => by cases h_) hK hP hD hS hA rfl (fun _ => rfl) (by omega) (by first | exact Nat.le_of_ble_eq_true rfl | (simp only [componentBytes]; omega)) (by exact (by first | exact Nat.le_of_ble_eq_true rfl | omega | (simp only [rm_J10_init]; omega))) (by exact (by first | exact Nat.le_of_ble_eq_true rfl | omega | (simp only [rm_J10_init]; omega))) dJ10_init_12 (fun q1 H hP hD hS => ?_)
    have hP : va_P G.1 vwCl [oX h 12 [.null, .int (nI 0), .int (bI false), .int (nI 0)], aB G q1 60 (fun _ => 0)] _ := hP
    have hD : va_D A [oX h 12 [.null, .int (nI 0), .int (bI false), .int (nI 0)], aB G q1 60 (fun _ => 0)] := hD
    refine va_put (D := G.1) (ci := 12) (v := .ref q1) (ty := (.array .byte)) (C := RJ11) (T := TJ11) (N := 4) hx hb hts in_J11 tyJ11 tyJ11_ok nmJ11 hown hK hP hD hS 0 rfl rfl 0 (by decide) (hts _ q479) (fun _ h9 => h9) rfl (by decide +kernel) rfl rfl (Nat.le_of_ble_eq_true rfl) dJ10_init_14 (fun H locs hP hD hS => ?_)
    have hP : va_P G.1 vwCl [oX h 12 [.ref q1, .int (nI 0), .int (bI false), .int (nI 0)], aB G q1 60 (fun _ => 0)] _ := hP
    have hD : va_D A [oX h 12 [.ref q1, .int (nI 0), .int (bI false), .int (nI 0)], aB G q1 60 (fun _ => 0)] := hD
    refine lv_aload_n hx hb dJ10_init_17 rfl (lv_at hl 0 rfl) ?_
    refine lv_iconst (v := nI 0) hx hb dJ10_init_18 (by decide) ?_
    refine va_put (D := G.1) (ci := 12) (v := .int (nI 0)) (ty := .byte) (C := RJ11) (T := TJ11) (N := 4) hx hb hts in_J11 tyJ11 tyJ11_ok nmJ11 hown hK hP hD hS 0 rfl rfl 1 (by decide) (hts _ q480) (fun _ h9 => h9) rfl (by decide +kernel) (by rfl) rfl (Nat.le_of_ble_eq_true rfl) dJ10_init_19 (fun H locs hP hD hS => ?_)
    have hP : va_P G.1 vwCl [oX h 12 [.ref q1, .int (nI 0), .int (bI false), .int (nI 0)], aB G q1 60 (fun _ => 0)] _ := hP
    have hD : va_D A [oX h 12 [.ref q1, .int (nI 0), .int (bI false), .int (nI 0)], aB G q1 60 (fun _ => 0)] := hD
    refine lv_goto (tgt := 38) hx hb dJ10_init_22 (by decide) ?_
    have hP : va_P G.1 vwCl [oX h 12 [.ref q1, .int (nI 0), .int (bI false), .int (nI 0)], aB G q1 60 (fun _ => 0)] _ := hP
    have hD : va_D A [oX h 12 [.ref q1, .int (nI 0), .int (bI false), .int (nI 0)], aB G q1 60 (fun _ => 0)] := hD
    rw [hQQ]
    exact rt_v hx hb hr hlk q1 dJ10_init_38 hP hD hS (by first | exact Nat.le_of_ble_eq_true rfl | (simp only [rm_J10_init]; omega) | omega) (by first | exact Nat.le_of_ble_eq_true rfl | (simp only [rm_J10_init]; omega) | omega) trivial
def rm_J11_init : Room := ({ frames := 2, cells := 1, slots := 60, locals := 70 } : Room)
set_option maxHeartbeats 400000 in
set_option maxRecDepth 100000 in
theorem t_J11_init (l : Launch) (G : GG) (b0 sz : Nat) (h : Nat) : CT l yJ11_init cJ11_init 2 none (rm_J11_init) G b0 [.ref h, .int (nI 60)] [oX h 12 [.null, .int (nI 0), .int (bI false), .int (nI 0)]] sz (Rv G (fun (u : Nat) => True) (fun (u : Nat) => [oX h 12 [.ref u, .int (nI 0), .int (bI false), .int (nI 0)], aB G u 60 (fun _ => 0)])) := by
  refine CT.go (by decide) (Nat.le_of_ble_eq_true rfl) (fun p e s m below meth c A ls AR QQ hx hb hr hlk hml hown hnm hts hE hA hAb hsz hP hD hS hl hQQ => ?_)
  have hK := hE.1
  have hown : s.vm.findClass RJ11 = some m.cls := hown
  have hl : lv_has ls 2 [(0, .ref h), (1, .int (nI 60))] := hl
  clear hsz
  refine lv_aload_n hx hb dJ11_init_0 rfl (lv_at hl 0 rfl) ?_
  refine lv_iload_n hx hb dJ11_init_1 rfl (lv_at hl 1 rfl) ?_
  refine fin_v (ws' := (fun (u_1 : Nat) => [oX h 12 [.ref u_1, .int (nI 0), .int (bI false), .int (nI 0)], aB G u_1 60 (fun _ => 0)])) hA hS hP hD [0] rfl [(true, 0), (true, 1)] (fun _ => rfl) (by decide) (run_I (As := [.int (nI 60)]) (rest := []) (n9 := 1) hx hb hml hown hts hE hAb hl.1 hS hP hD [0] rfl (by decide) (t_J10_init l G b0 _ h ) (lw_meth q468) q125 q466 q467 rfl ⟨by decide, by decide, by decide +kernel⟩ ⟨Nat.le_of_ble_eq_true rfl, Nat.le_of_ble_eq_true rfl⟩ ⟨by first | exact Nat.le_of_ble_eq_true rfl | (simp only [rm_J11_init, rm_J10_init]; omega), by first | exact Nat.le_of_ble_eq_true rfl | (simp only [rm_J11_init, rm_J10_init]; omega)⟩ dJ11_init_2 (Nat.le_of_ble_eq_true rfl) rfl rfl) (fun u_1 H locs h_1 hP hD hS => ?_)
  have hP : va_P G.1 vwCl [oX h 12 [.ref u_1, .int (nI 0), .int (bI false), .int (nI 0)], aB G u_1 60 (fun _ => 0)] _ := hP
  have hD : va_D A [oX h 12 [.ref u_1, .int (nI 0), .int (bI false), .int (nI 0)], aB G u_1 60 (fun _ => 0)] := hD
  rw [hQQ]
  exact rt_v hx hb hr hlk u_1 dJ11_init_5 hP hD hS (by first | exact Nat.le_of_ble_eq_true rfl | (simp only [rm_J11_init, rm_J10_init]; omega) | omega) (by first | exact Nat.le_of_ble_eq_true rfl | (simp only [rm_J11_init, rm_J10_init]; omega) | omega) trivial
