/-! ===== the component: what fails ===== -/
def rm_X1_setPart_i : Room := ({ frames := 11, cells := 1, slots := 6, locals := 181 } : Room)
set_option maxHeartbeats 400000 in
set_option maxRecDepth 100000 in
theorem t_X1_setPart_i (l : Launch) (G : GG) (b0 sz : Nat) (h : Nat) (ad : Nat → Nat) (sn : Value) (hsh : Int64) (r c_ : Int32) (t : Int32) (htr : l.stackTraces = false) (hce : isCe r c_ = false) : CTX l yX1_setPart cX1_setPart 5 (some FieldType.int) (rm_X1_setPart_i) G b0 [.ref h, .int r, .int c_, .int t] [oC h ad sn hsh] sz "java/lang/IndexOutOfBoundsException" (fun (_ : Unit) => True) (fun (_ : Unit) => [oC h ad sn hsh]) := by
  refine CTX.go (by decide) (Nat.le_of_ble_eq_true rfl) (fun p e s m below meth c A ls AR QQ hx hb hr hlk hml hown hnm hts hE hA hAb hsz hP hD hS hl hexT hQQ => ?_)
  have hK := hE.1
  have hown : s.vm.findClass RX1 = some m.cls := hown
  have hl : lv_has ls 5 [(0, .ref h), (1, .int r), (2, .int c_), (3, .int t)] := hl
  clear hsz
  refine lv_iload_n hx hb dX1_setPart_0 rfl (lv_at hl 1 rfl) ?_
  refine lv_iload_n hx hb dX1_setPart_1 rfl (lv_at hl 2 rfl) ?_
  have hF_1 := fr_free (wc := []) [] rfl hA hS hD
  refine fin_x (ws' := (fun (_ : Unit) => [oC h ad sn hsh])) hS hF_1 (run_SX (As := [.int r, .int c_]) (rest := []) (n9 := 2) hx hb hml hown hts hE hAb hl.1 hS hP hD [] rfl (by decide) (t_X1_cellBy_f l G b0 _ r c_ (by omega) (by omega)) (lw_S q1360 q1361 q106 q1362) ⟨by decide, by decide, by decide +kernel⟩ ⟨Nat.le_of_ble_eq_true rfl, Nat.le_of_ble_eq_true rfl⟩ ⟨by first | exact Nat.le_of_ble_eq_true rfl | (simp only [rm_X1_setPart_i, rm_X1_cellBy_f]; omega), by first | exact Nat.le_of_ble_eq_true rfl | (simp only [rm_X1_setPart_i, rm_X1_cellBy_f]; omega)⟩ dX1_setPart_2 (Nat.le_of_ble_eq_true rfl) rfl rfl) (fun _ H1_ hk_ hp_ hd_ => fr_sel (ws := [oC h ad sn hsh]) (wc := []) (ws' := [oC h ad sn hsh]) [] [(false, 0)] rfl rfl (by decide) hP hD hk_ hF_1 hp_ hd_) (fun ce9 q9 u_1 H locs h_1 hP hD hS hce9 hcv9 hcl9 => ?_)
  have hP : va_P G.1 vwCl [oC h ad sn hsh] _ := hP
  have hD : va_D A [oC h ad sn hsh] := hD
  rw [hQQ]
  exact rt_x hexT hlk (()) hP hD hS hce9 hcv9 hcl9 (by first | exact Nat.le_of_ble_eq_true rfl | (simp only [rm_X1_setPart_i, rm_X1_cellBy_f]; omega) | omega) (by first | exact Nat.le_of_ble_eq_true rfl | (simp only [rm_X1_setPart_i, rm_X1_cellBy_f]; omega) | omega) trivial
def rm_X1_part_i : Room := ({ frames := 11, cells := 1, slots := 6, locals := 181 } : Room)
set_option maxHeartbeats 400000 in
set_option maxRecDepth 100000 in
theorem t_X1_part_i (l : Launch) (G : GG) (b0 sz : Nat) (h : Nat) (ad : Nat → Nat) (sn : Value) (hsh : Int64) (r c_ : Int32) (htr : l.stackTraces = false) (hce : isCe r c_ = false) : CTX l yX1_part cX1_part 4 (some FieldType.int) (rm_X1_part_i) G b0 [.ref h, .int r, .int c_] [oC h ad sn hsh] sz "java/lang/IndexOutOfBoundsException" (fun (_ : Unit) => True) (fun (_ : Unit) => [oC h ad sn hsh]) := by
  refine CTX.go (by decide) (Nat.le_of_ble_eq_true rfl) (fun p e s m below meth c A ls AR QQ hx hb hr hlk hml hown hnm hts hE hA hAb hsz hP hD hS hl hexT hQQ => ?_)
  have hK := hE.1
  have hown : s.vm.findClass RX1 = some m.cls := hown
  have hl : lv_has ls 4 [(0, .ref h), (1, .int r), (2, .int c_)] := hl
  clear hsz
  refine lv_iload_n hx hb dX1_part_0 rfl (lv_at hl 1 rfl) ?_
  refine lv_iload_n hx hb dX1_part_1 rfl (lv_at hl 2 rfl) ?_
  have hF_1 := fr_free (wc := []) [] rfl hA hS hD
  refine fin_x (ws' := (fun (_ : Unit) => [oC h ad sn hsh])) hS hF_1 (run_SX (As := [.int r, .int c_]) (rest := []) (n9 := 2) hx hb hml hown hts hE hAb hl.1 hS hP hD [] rfl (by decide) (t_X1_cellBy_f l G b0 _ r c_ (by omega) (by omega)) (lw_S q1360 q1361 q106 q1362) ⟨by decide, by decide, by decide +kernel⟩ ⟨Nat.le_of_ble_eq_true rfl, Nat.le_of_ble_eq_true rfl⟩ ⟨by first | exact Nat.le_of_ble_eq_true rfl | (simp only [rm_X1_part_i, rm_X1_cellBy_f]; omega), by first | exact Nat.le_of_ble_eq_true rfl | (simp only [rm_X1_part_i, rm_X1_cellBy_f]; omega)⟩ dX1_part_2 (Nat.le_of_ble_eq_true rfl) rfl rfl) (fun _ H1_ hk_ hp_ hd_ => fr_sel (ws := [oC h ad sn hsh]) (wc := []) (ws' := [oC h ad sn hsh]) [] [(false, 0)] rfl rfl (by decide) hP hD hk_ hF_1 hp_ hd_) (fun ce9 q9 u_1 H locs h_1 hP hD hS hce9 hcv9 hcl9 => ?_)
  have hP : va_P G.1 vwCl [oC h ad sn hsh] _ := hP
  have hD : va_D A [oC h ad sn hsh] := hD
  rw [hQQ]
  exact rt_x hexT hlk (()) hP hD hS hce9 hcv9 hcl9 (by first | exact Nat.le_of_ble_eq_true rfl | (simp only [rm_X1_part_i, rm_X1_cellBy_f]; omega) | omega) (by first | exact Nat.le_of_ble_eq_true rfl | (simp only [rm_X1_part_i, rm_X1_cellBy_f]; omega) | omega) trivial
def rm_X1_shadeBack_i : Room := ({ frames := 11, cells := 1, slots := 6, locals := 181 } : Room)
set_option maxHeartbeats 400000 in
set_option maxRecDepth 100000 in
theorem t_X1_shadeBack_i (l : Launch) (G : GG) (b0 sz : Nat) (h : Nat) (ad : Nat → Nat) (sn : Value) (hsh : Int64) (r c_ : Int32) (htr : l.stackTraces = false) (hce : isCe r c_ = false) : CTX l yX1_shadeBack cX1_shadeBack 4 (some FieldType.int) (rm_X1_shadeBack_i) G b0 [.ref h, .int r, .int c_] [oC h ad sn hsh] sz "java/lang/IndexOutOfBoundsException" (fun (_ : Unit) => True) (fun (_ : Unit) => [oC h ad sn hsh]) := by
  refine CTX.go (by decide) (Nat.le_of_ble_eq_true rfl) (fun p e s m below meth c A ls AR QQ hx hb hr hlk hml hown hnm hts hE hA hAb hsz hP hD hS hl hexT hQQ => ?_)
  have hK := hE.1
  have hown : s.vm.findClass RX1 = some m.cls := hown
  have hl : lv_has ls 4 [(0, .ref h), (1, .int r), (2, .int c_)] := hl
  clear hsz
  refine lv_iload_n hx hb dX1_shadeBack_0 rfl (lv_at hl 1 rfl) ?_
  refine lv_iload_n hx hb dX1_shadeBack_1 rfl (lv_at hl 2 rfl) ?_
  have hF_1 := fr_free (wc := []) [] rfl hA hS hD
  refine fin_x (ws' := (fun (_ : Unit) => [oC h ad sn hsh])) hS hF_1 (run_SX (As := [.int r, .int c_]) (rest := []) (n9 := 2) hx hb hml hown hts hE hAb hl.1 hS hP hD [] rfl (by decide) (t_X1_cellBy_f l G b0 _ r c_ (by omega) (by omega)) (lw_S q1360 q1361 q106 q1362) ⟨by decide, by decide, by decide +kernel⟩ ⟨Nat.le_of_ble_eq_true rfl, Nat.le_of_ble_eq_true rfl⟩ ⟨by first | exact Nat.le_of_ble_eq_true rfl | (simp only [rm_X1_shadeBack_i, rm_X1_cellBy_f]; omega), by first | exact Nat.le_of_ble_eq_true rfl | (simp only [rm_X1_shadeBack_i, rm_X1_cellBy_f]; omega)⟩ dX1_shadeBack_2 (Nat.le_of_ble_eq_true rfl) rfl rfl) (fun _ H1_ hk_ hp_ hd_ => fr_sel (ws := [oC h ad sn hsh]) (wc := []) (ws' := [oC h ad sn hsh]) [] [(false, 0)] rfl rfl (by decide) hP hD hk_ hF_1 hp_ hd_) (fun ce9 q9 u_1 H locs h_1 hP hD hS hce9 hcv9 hcl9 => ?_)
  have hP : va_P G.1 vwCl [oC h ad sn hsh] _ := hP
  have hD : va_D A [oC h ad sn hsh] := hD
  rw [hQQ]
  exact rt_x hexT hlk (()) hP hD hS hce9 hcv9 hcl9 (by first | exact Nat.le_of_ble_eq_true rfl | (simp only [rm_X1_shadeBack_i, rm_X1_cellBy_f]; omega) | omega) (by first | exact Nat.le_of_ble_eq_true rfl | (simp only [rm_X1_shadeBack_i, rm_X1_cellBy_f]; omega) | omega) trivial
def rm_X1_shadeByParts_i : Room := ({ frames := 11, cells := 1, slots := 6, locals := 181 } : Room)
set_option maxHeartbeats 400000 in
set_option maxRecDepth 100000 in
theorem t_X1_shadeByParts_i (l : Launch) (G : GG) (b0 sz : Nat) (h : Nat) (ad : Nat → Nat) (sn : Value) (hsh : Int64) (r c_ : Int32) (htr : l.stackTraces = false) (hce : isCe r c_ = false) : CTX l yX1_shadeByParts cX1_shadeByParts 3 (some FieldType.int) (rm_X1_shadeByParts_i) G b0 [.ref h, .int r, .int c_] [oC h ad sn hsh] sz "java/lang/IndexOutOfBoundsException" (fun (_ : Unit) => True) (fun (_ : Unit) => [oC h ad sn hsh]) := by
  refine CTX.go (by decide) (Nat.le_of_ble_eq_true rfl) (fun p e s m below meth c A ls AR QQ hx hb hr hlk hml hown hnm hts hE hA hAb hsz hP hD hS hl hexT hQQ => ?_)
  have hK := hE.1
  have hown : s.vm.findClass RX1 = some m.cls := hown
  have hl : lv_has ls 3 [(0, .ref h), (1, .int r), (2, .int c_)] := hl
  clear hsz
  refine lv_iload_n hx hb dX1_shadeByParts_0 rfl (lv_at hl 1 rfl) ?_
  refine lv_iload_n hx hb dX1_shadeByParts_1 rfl (lv_at hl 2 rfl) ?_
  have hF_1 := fr_free (wc := []) [] rfl hA hS hD
  refine fin_x (ws' := (fun (_ : Unit) => [oC h ad sn hsh])) hS hF_1 (run_SX (As := [.int r, .int c_]) (rest := []) (n9 := 2) hx hb hml hown hts hE hAb hl.1 hS hP hD [] rfl (by decide) (t_X1_cellBy_f l G b0 _ r c_ (by omega) (by omega)) (lw_S q1360 q1361 q106 q1362) ⟨by decide, by decide, by decide +kernel⟩ ⟨Nat.le_of_ble_eq_true rfl, Nat.le_of_ble_eq_true rfl⟩ ⟨by first | exact Nat.le_of_ble_eq_true rfl | (simp only [rm_X1_shadeByParts_i, rm_X1_cellBy_f]; omega), by first | exact Nat.le_of_ble_eq_true rfl | (simp only [rm_X1_shadeByParts_i, rm_X1_cellBy_f]; omega)⟩ dX1_shadeByParts_2 (Nat.le_of_ble_eq_true rfl) rfl rfl) (fun _ H1_ hk_ hp_ hd_ => fr_sel (ws := [oC h ad sn hsh]) (wc := []) (ws' := [oC h ad sn hsh]) [] [(false, 0)] rfl rfl (by decide) hP hD hk_ hF_1 hp_ hd_) (fun ce9 q9 u_1 H locs h_1 hP hD hS hce9 hcv9 hcl9 => ?_)
  have hP : va_P G.1 vwCl [oC h ad sn hsh] _ := hP
  have hD : va_D A [oC h ad sn hsh] := hD
  rw [hQQ]
  exact rt_x hexT hlk (()) hP hD hS hce9 hcv9 hcl9 (by first | exact Nat.le_of_ble_eq_true rfl | (simp only [rm_X1_shadeByParts_i, rm_X1_cellBy_f]; omega) | omega) (by first | exact Nat.le_of_ble_eq_true rfl | (simp only [rm_X1_shadeByParts_i, rm_X1_cellBy_f]; omega) | omega) trivial
def rm_X1_setShade_i : Room := ({ frames := 11, cells := 1, slots := 6, locals := 181 } : Room)
set_option maxHeartbeats 400000 in
set_option maxRecDepth 100000 in
theorem t_X1_setShade_i (l : Launch) (G : GG) (b0 sz : Nat) (h : Nat) (ad : Nat → Nat) (sn : Value) (hsh : Int64) (r c_ : Int32) (t : Int32) (htr : l.stackTraces = false) (hce : isCe r c_ = false) : CTX l yX1_setShade cX1_setShade 5 (some FieldType.int) (rm_X1_setShade_i) G b0 [.ref h, .int r, .int c_, .int t] [oC h ad sn hsh] sz "java/lang/IndexOutOfBoundsException" (fun (_ : Unit) => True) (fun (_ : Unit) => [oC h ad sn hsh]) := by
  refine CTX.go (by decide) (Nat.le_of_ble_eq_true rfl) (fun p e s m below meth c A ls AR QQ hx hb hr hlk hml hown hnm hts hE hA hAb hsz hP hD hS hl hexT hQQ => ?_)
  have hK := hE.1
  have hown : s.vm.findClass RX1 = some m.cls := hown
  have hl : lv_has ls 5 [(0, .ref h), (1, .int r), (2, .int c_), (3, .int t)] := hl
  clear hsz
  refine lv_iload_n hx hb dX1_setShade_0 rfl (lv_at hl 1 rfl) ?_
  refine lv_iload_n hx hb dX1_setShade_1 rfl (lv_at hl 2 rfl) ?_
  have hF_1 := fr_free (wc := []) [] rfl hA hS hD
  refine fin_x (ws' := (fun (_ : Unit) => [oC h ad sn hsh])) hS hF_1 (run_SX (As := [.int r, .int c_]) (rest := []) (n9 := 2) hx hb hml hown hts hE hAb hl.1 hS hP hD [] rfl (by decide) (t_X1_cellBy_f l G b0 _ r c_ (by omega) (by omega)) (lw_S q1360 q1361 q106 q1362) ⟨by decide, by decide, by decide +kernel⟩ ⟨Nat.le_of_ble_eq_true rfl, Nat.le_of_ble_eq_true rfl⟩ ⟨by first | exact Nat.le_of_ble_eq_true rfl | (simp only [rm_X1_setShade_i, rm_X1_cellBy_f]; omega), by first | exact Nat.le_of_ble_eq_true rfl | (simp only [rm_X1_setShade_i, rm_X1_cellBy_f]; omega)⟩ dX1_setShade_2 (Nat.le_of_ble_eq_true rfl) rfl rfl) (fun _ H1_ hk_ hp_ hd_ => fr_sel (ws := [oC h ad sn hsh]) (wc := []) (ws' := [oC h ad sn hsh]) [] [(false, 0)] rfl rfl (by decide) hP hD hk_ hF_1 hp_ hd_) (fun ce9 q9 u_1 H locs h_1 hP hD hS hce9 hcv9 hcl9 => ?_)
  have hP : va_P G.1 vwCl [oC h ad sn hsh] _ := hP
  have hD : va_D A [oC h ad sn hsh] := hD
  rw [hQQ]
  exact rt_x hexT hlk (()) hP hD hS hce9 hcv9 hcl9 (by first | exact Nat.le_of_ble_eq_true rfl | (simp only [rm_X1_setShade_i, rm_X1_cellBy_f]; omega) | omega) (by first | exact Nat.le_of_ble_eq_true rfl | (simp only [rm_X1_setShade_i, rm_X1_cellBy_f]; omega) | omega) trivial
def rm_X1_setShade_a : Room := ({ frames := 11, cells := 1, slots := 6, locals := 180 } : Room)
set_option maxHeartbeats 400000 in
set_option maxRecDepth 100000 in
theorem t_X1_setShade_a (l : Launch) (G : GG) (b0 sz : Nat) (h : Nat) (ad : Nat → Nat) (sn : Value) (hsh : Int64) (r c_ : Nat) (t : Int32) (htr : l.stackTraces = false) (hr_ : r < 8) (hc_ : c_ < 8) (htt : isSh t = false) : CTX l yX1_setShade cX1_setShade 5 (some FieldType.int) (rm_X1_setShade_a) G b0 [.ref h, .int (nI r), .int (nI c_), .int t] [oC h ad sn hsh] sz "java/lang/IllegalArgumentException" (fun (_ : Unit) => True) (fun (_ : Unit) => [oC h ad sn hsh]) := by
  refine CTX.go (by decide) (Nat.le_of_ble_eq_true rfl) (fun p e s m below meth c A ls AR QQ hx hb hr hlk hml hown hnm hts hE hA hAb hsz hP hD hS hl hexT hQQ => ?_)
  have hK := hE.1
  have hown : s.vm.findClass RX1 = some m.cls := hown
  have hl : lv_has ls 5 [(0, .ref h), (1, .int (nI r)), (2, .int (nI c_)), (3, .int t)] := hl
  clear hsz
  refine lv_iload_n hx hb dX1_setShade_0 rfl (lv_at hl 1 rfl) ?_
  refine lv_iload_n hx hb dX1_setShade_1 rfl (lv_at hl 2 rfl) ?_
  refine fin_i (ws' := (fun (_ : Unit) => [oC h ad sn hsh])) hA hS hP hD [] rfl [(false, 0)] (fun _ => rfl) (by decide) (run_S (As := [.int (nI r), .int (nI c_)]) (rest := []) (n9 := 2) hx hb hml hown hts hE hAb hl.1 hS hP hD [] rfl (by decide) (t_X1_cellBy_t l G b0 _ r c_ (by omega) (by omega)) (lw_S q1360 q1361 q106 q1362) ⟨by decide, by decide, by decide +kernel⟩ ⟨Nat.le_of_ble_eq_true rfl, Nat.le_of_ble_eq_true rfl⟩ ⟨by first | exact Nat.le_of_ble_eq_true rfl | (simp only [rm_X1_setShade_a, rm_X1_cellBy_t]; omega), by first | exact Nat.le_of_ble_eq_true rfl | (simp only [rm_X1_setShade_a, rm_X1_cellBy_t]; omega)⟩ dX1_setShade_2 (Nat.le_of_ble_eq_true rfl) rfl rfl) (fun r_1 u_1 H locs h_1 hP hD hS => ?_)
  have hP : va_P G.1 vwCl [oC h ad sn hsh] _ := hP
  have hD : va_D A [oC h ad sn hsh] := hD
  have h_1 : r_1 = (nI (8 * r + c_)) := h_1
  rw [h_1]
  refine lv_istore (lv' := [(4, .int (nI (8 * r + c_))), (0, .ref h), (1, .int (nI r)), (2, .int (nI c_)), (3, .int t)]) hx hb dX1_setShade_5 hl (by decide) rfl (fun ls hl => ?_)
  refine lv_iload_n hx hb dX1_setShade_7 rfl (lv_at hl 4 rfl) ?_
  have hF_2 := fr_free (wc := []) [] rfl hA hS hD
  refine fin_x (ws' := (fun (_ : Unit) => [oC h ad sn hsh])) hS hF_2 (run_SX (As := [.int t]) (rest := []) (n9 := 1) hx hb hml hown hts hE hAb hl.1 hS hP hD [] rfl (by decide) (t_X1_needShade_f l G b0 _ t (by omega) (by omega)) (lw_S q1372 q1373 q106 q1374) ⟨by decide, by decide, by decide +kernel⟩ ⟨Nat.le_of_ble_eq_true rfl, Nat.le_of_ble_eq_true rfl⟩ ⟨by first | exact Nat.le_of_ble_eq_true rfl | (simp only [rm_X1_setShade_a, rm_X1_needShade_f, rm_X1_cellBy_t]; omega), by first | exact Nat.le_of_ble_eq_true rfl | (simp only [rm_X1_setShade_a, rm_X1_needShade_f, rm_X1_cellBy_t]; omega)⟩ dX1_setShade_8 (Nat.le_of_ble_eq_true rfl) rfl rfl) (fun _ H1_ hk_ hp_ hd_ => fr_sel (ws := [oC h ad sn hsh]) (wc := []) (ws' := [oC h ad sn hsh]) [] [(false, 0)] rfl rfl (by decide) hP hD hk_ hF_2 hp_ hd_) (fun ce9 q9 u_2 H locs h_2 hP hD hS hce9 hcv9 hcl9 => ?_)
  have hP : va_P G.1 vwCl [oC h ad sn hsh] _ := hP
  have hD : va_D A [oC h ad sn hsh] := hD
  rw [hQQ]
  exact rt_x hexT hlk (()) hP hD hS hce9 hcv9 hcl9 (by first | exact Nat.le_of_ble_eq_true rfl | (simp only [rm_X1_setShade_a, rm_X1_cellBy_t, rm_X1_needShade_f]; omega) | omega) (by first | exact Nat.le_of_ble_eq_true rfl | (simp only [rm_X1_setShade_a, rm_X1_cellBy_t, rm_X1_needShade_f]; omega) | omega) trivial
def rm_X1_isTree_i : Room := ({ frames := 11, cells := 1, slots := 6, locals := 181 } : Room)
set_option maxHeartbeats 400000 in
set_option maxRecDepth 100000 in
theorem t_X1_isTree_i (l : Launch) (G : GG) (b0 sz : Nat) (h : Nat) (ad : Nat → Nat) (sn : Value) (hsh : Int64) (r c_ : Int32) (t : Int32) (htr : l.stackTraces = false) (hce : isCe r c_ = false) : CTX l yX1_isTree cX1_isTree 6 (some FieldType.boolean) (rm_X1_isTree_i) G b0 [.ref h, .int r, .int c_, .int t] [oC h ad sn hsh] sz "java/lang/IndexOutOfBoundsException" (fun (_ : Unit) => True) (fun (_ : Unit) => [oC h ad sn hsh]) := by
  refine CTX.go (by decide) (Nat.le_of_ble_eq_true rfl) (fun p e s m below meth c A ls AR QQ hx hb hr hlk hml hown hnm hts hE hA hAb hsz hP hD hS hl hexT hQQ => ?_)
  have hK := hE.1
  have hown : s.vm.findClass RX1 = some m.cls := hown
  have hl : lv_has ls 6 [(0, .ref h), (1, .int r), (2, .int c_), (3, .int t)] := hl
  clear hsz
  refine lv_iload_n hx hb dX1_isTree_0 rfl (lv_at hl 1 rfl) ?_
  refine lv_iload_n hx hb dX1_isTree_1 rfl (lv_at hl 2 rfl) ?_
  have hF_1 := fr_free (wc := []) [] rfl hA hS hD
  refine fin_x (ws' := (fun (_ : Unit) => [oC h ad sn hsh])) hS hF_1 (run_SX (As := [.int r, .int c_]) (rest := []) (n9 := 2) hx hb hml hown hts hE hAb hl.1 hS hP hD [] rfl (by decide) (t_X1_cellBy_f l G b0 _ r c_ (by omega) (by omega)) (lw_S q1360 q1361 q106 q1362) ⟨by decide, by decide, by decide +kernel⟩ ⟨Nat.le_of_ble_eq_true rfl, Nat.le_of_ble_eq_true rfl⟩ ⟨by first | exact Nat.le_of_ble_eq_true rfl | (simp only [rm_X1_isTree_i, rm_X1_cellBy_f]; omega), by first | exact Nat.le_of_ble_eq_true rfl | (simp only [rm_X1_isTree_i, rm_X1_cellBy_f]; omega)⟩ dX1_isTree_2 (Nat.le_of_ble_eq_true rfl) rfl rfl) (fun _ H1_ hk_ hp_ hd_ => fr_sel (ws := [oC h ad sn hsh]) (wc := []) (ws' := [oC h ad sn hsh]) [] [(false, 0)] rfl rfl (by decide) hP hD hk_ hF_1 hp_ hd_) (fun ce9 q9 u_1 H locs h_1 hP hD hS hce9 hcv9 hcl9 => ?_)
  have hP : va_P G.1 vwCl [oC h ad sn hsh] _ := hP
  have hD : va_D A [oC h ad sn hsh] := hD
  rw [hQQ]
  exact rt_x hexT hlk (()) hP hD hS hce9 hcv9 hcl9 (by first | exact Nat.le_of_ble_eq_true rfl | (simp only [rm_X1_isTree_i, rm_X1_cellBy_f]; omega) | omega) (by first | exact Nat.le_of_ble_eq_true rfl | (simp only [rm_X1_isTree_i, rm_X1_cellBy_f]; omega) | omega) trivial
def rm_X1_isTree_a : Room := ({ frames := 11, cells := 1, slots := 6, locals := 180 } : Room)
set_option maxHeartbeats 400000 in
set_option maxRecDepth 100000 in
theorem t_X1_isTree_a (l : Launch) (G : GG) (b0 sz : Nat) (h : Nat) (ad : Nat → Nat) (sn : Value) (hsh : Int64) (r c_ : Nat) (t : Int32) (htr : l.stackTraces = false) (hr_ : r < 8) (hc_ : c_ < 8) (htt : isSh t = false) : CTX l yX1_isTree cX1_isTree 6 (some FieldType.boolean) (rm_X1_isTree_a) G b0 [.ref h, .int (nI r), .int (nI c_), .int t] [oC h ad sn hsh] sz "java/lang/IllegalArgumentException" (fun (_ : Unit) => True) (fun (_ : Unit) => [oC h ad sn hsh]) := by
  refine CTX.go (by decide) (Nat.le_of_ble_eq_true rfl) (fun p e s m below meth c A ls AR QQ hx hb hr hlk hml hown hnm hts hE hA hAb hsz hP hD hS hl hexT hQQ => ?_)
  have hK := hE.1
  have hown : s.vm.findClass RX1 = some m.cls := hown
  have hl : lv_has ls 6 [(0, .ref h), (1, .int (nI r)), (2, .int (nI c_)), (3, .int t)] := hl
  clear hsz
  refine lv_iload_n hx hb dX1_isTree_0 rfl (lv_at hl 1 rfl) ?_
  refine lv_iload_n hx hb dX1_isTree_1 rfl (lv_at hl 2 rfl) ?_
  refine fin_i (ws' := (fun (_ : Unit) => [oC h ad sn hsh])) hA hS hP hD [] rfl [(false, 0)] (fun _ => rfl) (by decide) (run_S (As := [.int (nI r), .int (nI c_)]) (rest := []) (n9 := 2) hx hb hml hown hts hE hAb hl.1 hS hP hD [] rfl (by decide) (t_X1_cellBy_t l G b0 _ r c_ (by omega) (by omega)) (lw_S q1360 q1361 q106 q1362) ⟨by decide, by decide, by decide +kernel⟩ ⟨Nat.le_of_ble_eq_true rfl, Nat.le_of_ble_eq_true rfl⟩ ⟨by first | exact Nat.le_of_ble_eq_true rfl | (simp only [rm_X1_isTree_a, rm_X1_cellBy_t]; omega), by first | exact Nat.le_of_ble_eq_true rfl | (simp only [rm_X1_isTree_a, rm_X1_cellBy_t]; omega)⟩ dX1_isTree_2 (Nat.le_of_ble_eq_true rfl) rfl rfl) (fun r_1 u_1 H locs h_1 hP hD hS => ?_)
  have hP : va_P G.1 vwCl [oC h ad sn hsh] _ := hP
  have hD : va_D A [oC h ad sn hsh] := hD
  have h_1 : r_1 = (nI (8 * r + c_)) := h_1
  rw [h_1]
  refine lv_istore (lv' := [(4, .int (nI (8 * r + c_))), (0, .ref h), (1, .int (nI r)), (2, .int (nI c_)), (3, .int t)]) hx hb dX1_isTree_5 hl (by decide) rfl (fun ls hl => ?_)
  refine lv_iload_n hx hb dX1_isTree_7 rfl (lv_at hl 4 rfl) ?_
  have hF_2 := fr_free (wc := []) [] rfl hA hS hD
  refine fin_x (ws' := (fun (_ : Unit) => [oC h ad sn hsh])) hS hF_2 (run_SX (As := [.int t]) (rest := []) (n9 := 1) hx hb hml hown hts hE hAb hl.1 hS hP hD [] rfl (by decide) (t_X1_needShade_f l G b0 _ t (by omega) (by omega)) (lw_S q1372 q1373 q106 q1374) ⟨by decide, by decide, by decide +kernel⟩ ⟨Nat.le_of_ble_eq_true rfl, Nat.le_of_ble_eq_true rfl⟩ ⟨by first | exact Nat.le_of_ble_eq_true rfl | (simp only [rm_X1_isTree_a, rm_X1_needShade_f, rm_X1_cellBy_t]; omega), by first | exact Nat.le_of_ble_eq_true rfl | (simp only [rm_X1_isTree_a, rm_X1_needShade_f, rm_X1_cellBy_t]; omega)⟩ dX1_isTree_8 (Nat.le_of_ble_eq_true rfl) rfl rfl) (fun _ H1_ hk_ hp_ hd_ => fr_sel (ws := [oC h ad sn hsh]) (wc := []) (ws' := [oC h ad sn hsh]) [] [(false, 0)] rfl rfl (by decide) hP hD hk_ hF_2 hp_ hd_) (fun ce9 q9 u_2 H locs h_2 hP hD hS hce9 hcv9 hcl9 => ?_)
  have hP : va_P G.1 vwCl [oC h ad sn hsh] _ := hP
  have hD : va_D A [oC h ad sn hsh] := hD
  rw [hQQ]
  exact rt_x hexT hlk (()) hP hD hS hce9 hcv9 hcl9 (by first | exact Nat.le_of_ble_eq_true rfl | (simp only [rm_X1_isTree_a, rm_X1_cellBy_t, rm_X1_needShade_f]; omega) | omega) (by first | exact Nat.le_of_ble_eq_true rfl | (simp only [rm_X1_isTree_a, rm_X1_cellBy_t, rm_X1_needShade_f]; omega) | omega) trivial
def rm_X1_partsChanged_i : Room := ({ frames := 11, cells := 1, slots := 6, locals := 181 } : Room)
set_option maxHeartbeats 400000 in
set_option maxRecDepth 100000 in
theorem t_X1_partsChanged_i (l : Launch) (G : GG) (b0 sz : Nat) (h : Nat) (ad : Nat → Nat) (sn : Value) (hsh : Int64) (r c_ : Int32) (t : Int32) (htr : l.stackTraces = false) (hce : isCe r c_ = false) : CTX l yX1_partsChanged cX1_partsChanged 7 (some FieldType.int) (rm_X1_partsChanged_i) G b0 [.ref h, .int r, .int c_, .int t] [oC h ad sn hsh] sz "java/lang/IndexOutOfBoundsException" (fun (_ : Unit) => True) (fun (_ : Unit) => [oC h ad sn hsh]) := by
  refine CTX.go (by decide) (Nat.le_of_ble_eq_true rfl) (fun p e s m below meth c A ls AR QQ hx hb hr hlk hml hown hnm hts hE hA hAb hsz hP hD hS hl hexT hQQ => ?_)
  have hK := hE.1
  have hown : s.vm.findClass RX1 = some m.cls := hown
  have hl : lv_has ls 7 [(0, .ref h), (1, .int r), (2, .int c_), (3, .int t)] := hl
  clear hsz
  refine lv_iload_n hx hb dX1_partsChanged_0 rfl (lv_at hl 1 rfl) ?_
  refine lv_iload_n hx hb dX1_partsChanged_1 rfl (lv_at hl 2 rfl) ?_
  have hF_1 := fr_free (wc := []) [] rfl hA hS hD
  refine fin_x (ws' := (fun (_ : Unit) => [oC h ad sn hsh])) hS hF_1 (run_SX (As := [.int r, .int c_]) (rest := []) (n9 := 2) hx hb hml hown hts hE hAb hl.1 hS hP hD [] rfl (by decide) (t_X1_cellBy_f l G b0 _ r c_ (by omega) (by omega)) (lw_S q1360 q1361 q106 q1362) ⟨by decide, by decide, by decide +kernel⟩ ⟨Nat.le_of_ble_eq_true rfl, Nat.le_of_ble_eq_true rfl⟩ ⟨by first | exact Nat.le_of_ble_eq_true rfl | (simp only [rm_X1_partsChanged_i, rm_X1_cellBy_f]; omega), by first | exact Nat.le_of_ble_eq_true rfl | (simp only [rm_X1_partsChanged_i, rm_X1_cellBy_f]; omega)⟩ dX1_partsChanged_2 (Nat.le_of_ble_eq_true rfl) rfl rfl) (fun _ H1_ hk_ hp_ hd_ => fr_sel (ws := [oC h ad sn hsh]) (wc := []) (ws' := [oC h ad sn hsh]) [] [(false, 0)] rfl rfl (by decide) hP hD hk_ hF_1 hp_ hd_) (fun ce9 q9 u_1 H locs h_1 hP hD hS hce9 hcv9 hcl9 => ?_)
  have hP : va_P G.1 vwCl [oC h ad sn hsh] _ := hP
  have hD : va_D A [oC h ad sn hsh] := hD
  rw [hQQ]
  exact rt_x hexT hlk (()) hP hD hS hce9 hcv9 hcl9 (by first | exact Nat.le_of_ble_eq_true rfl | (simp only [rm_X1_partsChanged_i, rm_X1_cellBy_f]; omega) | omega) (by first | exact Nat.le_of_ble_eq_true rfl | (simp only [rm_X1_partsChanged_i, rm_X1_cellBy_f]; omega) | omega) trivial
def rm_X1_partsChanged_a : Room := ({ frames := 11, cells := 1, slots := 6, locals := 180 } : Room)
set_option maxHeartbeats 400000 in
set_option maxRecDepth 100000 in
theorem t_X1_partsChanged_a (l : Launch) (G : GG) (b0 sz : Nat) (h : Nat) (ad : Nat → Nat) (sn : Value) (hsh : Int64) (r c_ : Nat) (t : Int32) (htr : l.stackTraces = false) (hr_ : r < 8) (hc_ : c_ < 8) (htt : isSh t = false) : CTX l yX1_partsChanged cX1_partsChanged 7 (some FieldType.int) (rm_X1_partsChanged_a) G b0 [.ref h, .int (nI r), .int (nI c_), .int t] [oC h ad sn hsh] sz "java/lang/IllegalArgumentException" (fun (_ : Unit) => True) (fun (_ : Unit) => [oC h ad sn hsh]) := by
  refine CTX.go (by decide) (Nat.le_of_ble_eq_true rfl) (fun p e s m below meth c A ls AR QQ hx hb hr hlk hml hown hnm hts hE hA hAb hsz hP hD hS hl hexT hQQ => ?_)
  have hK := hE.1
  have hown : s.vm.findClass RX1 = some m.cls := hown
  have hl : lv_has ls 7 [(0, .ref h), (1, .int (nI r)), (2, .int (nI c_)), (3, .int t)] := hl
  clear hsz
  refine lv_iload_n hx hb dX1_partsChanged_0 rfl (lv_at hl 1 rfl) ?_
  refine lv_iload_n hx hb dX1_partsChanged_1 rfl (lv_at hl 2 rfl) ?_
  refine fin_i (ws' := (fun (_ : Unit) => [oC h ad sn hsh])) hA hS hP hD [] rfl [(false, 0)] (fun _ => rfl) (by decide) (run_S (As := [.int (nI r), .int (nI c_)]) (rest := []) (n9 := 2) hx hb hml hown hts hE hAb hl.1 hS hP hD [] rfl (by decide) (t_X1_cellBy_t l G b0 _ r c_ (by omega) (by omega)) (lw_S q1360 q1361 q106 q1362) ⟨by decide, by decide, by decide +kernel⟩ ⟨Nat.le_of_ble_eq_true rfl, Nat.le_of_ble_eq_true rfl⟩ ⟨by first | exact Nat.le_of_ble_eq_true rfl | (simp only [rm_X1_partsChanged_a, rm_X1_cellBy_t]; omega), by first | exact Nat.le_of_ble_eq_true rfl | (simp only [rm_X1_partsChanged_a, rm_X1_cellBy_t]; omega)⟩ dX1_partsChanged_2 (Nat.le_of_ble_eq_true rfl) rfl rfl) (fun r_1 u_1 H locs h_1 hP hD hS => ?_)
  have hP : va_P G.1 vwCl [oC h ad sn hsh] _ := hP
  have hD : va_D A [oC h ad sn hsh] := hD
  have h_1 : r_1 = (nI (8 * r + c_)) := h_1
  rw [h_1]
  refine lv_istore (lv' := [(4, .int (nI (8 * r + c_))), (0, .ref h), (1, .int (nI r)), (2, .int (nI c_)), (3, .int t)]) hx hb dX1_partsChanged_5 hl (by decide) rfl (fun ls hl => ?_)
  refine lv_iload_n hx hb dX1_partsChanged_7 rfl (lv_at hl 4 rfl) ?_
  have hF_2 := fr_free (wc := []) [] rfl hA hS hD
  refine fin_x (ws' := (fun (_ : Unit) => [oC h ad sn hsh])) hS hF_2 (run_SX (As := [.int t]) (rest := []) (n9 := 1) hx hb hml hown hts hE hAb hl.1 hS hP hD [] rfl (by decide) (t_X1_needShade_f l G b0 _ t (by omega) (by omega)) (lw_S q1372 q1373 q106 q1374) ⟨by decide, by decide, by decide +kernel⟩ ⟨Nat.le_of_ble_eq_true rfl, Nat.le_of_ble_eq_true rfl⟩ ⟨by first | exact Nat.le_of_ble_eq_true rfl | (simp only [rm_X1_partsChanged_a, rm_X1_needShade_f, rm_X1_cellBy_t]; omega), by first | exact Nat.le_of_ble_eq_true rfl | (simp only [rm_X1_partsChanged_a, rm_X1_needShade_f, rm_X1_cellBy_t]; omega)⟩ dX1_partsChanged_8 (Nat.le_of_ble_eq_true rfl) rfl rfl) (fun _ H1_ hk_ hp_ hd_ => fr_sel (ws := [oC h ad sn hsh]) (wc := []) (ws' := [oC h ad sn hsh]) [] [(false, 0)] rfl rfl (by decide) hP hD hk_ hF_2 hp_ hd_) (fun ce9 q9 u_2 H locs h_2 hP hD hS hce9 hcv9 hcl9 => ?_)
  have hP : va_P G.1 vwCl [oC h ad sn hsh] _ := hP
  have hD : va_D A [oC h ad sn hsh] := hD
  rw [hQQ]
  exact rt_x hexT hlk (()) hP hD hS hce9 hcv9 hcl9 (by first | exact Nat.le_of_ble_eq_true rfl | (simp only [rm_X1_partsChanged_a, rm_X1_cellBy_t, rm_X1_needShade_f]; omega) | omega) (by first | exact Nat.le_of_ble_eq_true rfl | (simp only [rm_X1_partsChanged_a, rm_X1_cellBy_t, rm_X1_needShade_f]; omega) | omega) trivial
def rm_X1_shade_i : Room := ({ frames := 11, cells := 1, slots := 6, locals := 181 } : Room)
set_option maxHeartbeats 400000 in
set_option maxRecDepth 100000 in
theorem t_X1_shade_i (l : Launch) (G : GG) (b0 sz : Nat) (h : Nat) (ad : Nat → Nat) (sn : Value) (hsh : Int64) (L : Nat) (stp why : Int32) (r c_ : Int32) (htr : l.stackTraces = false) (hce : isCe r c_ = false) : CTX l yX1_shade cX1_shade 3 (some FieldType.int) (rm_X1_shade_i) G b0 [.ref h, .int r, .int c_] [oC h ad sn hsh, oX (ad 1) 1 [.ref (ad 11), .int (nI L), .int stp, .int why]] sz "java/lang/IndexOutOfBoundsException" (fun (_ : Unit) => True) (fun (_ : Unit) => [oC h ad sn hsh, oX (ad 1) 1 [.ref (ad 11), .int (nI L), .int stp, .int why]]) := by
  refine CTX.go (by decide) (Nat.le_of_ble_eq_true rfl) (fun p e s m below meth c A ls AR QQ hx hb hr hlk hml hown hnm hts hE hA hAb hsz hP hD hS hl hexT hQQ => ?_)
  have hK := hE.1
  have hown : s.vm.findClass RX1 = some m.cls := hown
  have hl : lv_has ls 3 [(0, .ref h), (1, .int r), (2, .int c_)] := hl
  clear hsz
  refine lv_aload_n hx hb dX1_shade_0 rfl (lv_at hl 0 rfl) ?_
  refine va_get (D := G.1) (ci := 0) (v := .ref (ad 1)) (C := RX1) (T := TX1) (N := 12) hx hb hts in_X1 hown hK hP 0 rfl rfl 0 (by decide) (hts _ q494) (fun _ h9 => h9) rfl dX1_shade_1 ?_
  refine va_getN (D := G.1) (ci := 1) (v := .ref (ad 11)) (C := RX2) (T := TX2) (N := 4) hx hb hts in_X2 hown hK hP 1 rfl rfl 0 (by decide) (hE.nb q159 rfl) (fun _ h9 => h9) rfl dX1_shade_4 ?_
  refine lv_iload_n hx hb dX1_shade_7 rfl (lv_at hl 1 rfl) ?_
  refine lv_iload_n hx hb dX1_shade_8 rfl (lv_at hl 2 rfl) ?_
  have hF_1 := fr_free (wc := []) [] rfl hA hS hD
  refine fin_x (ws' := (fun (_ : Unit) => [oC h ad sn hsh, oX (ad 1) 1 [.ref (ad 11), .int (nI L), .int stp, .int why]])) hS hF_1 (run_SX (As := [.int r, .int c_]) (rest := [.ref (ad 11)]) (n9 := 2) hx hb hml hown hts hE hAb hl.1 hS hP hD [] rfl (by decide) (t_X1_cellBy_f l G b0 _ r c_ (by omega) (by omega)) (lw_S q1360 q1361 q106 q1362) ⟨by decide, by decide, by decide +kernel⟩ ⟨Nat.le_of_ble_eq_true rfl, Nat.le_of_ble_eq_true rfl⟩ ⟨by first | exact Nat.le_of_ble_eq_true rfl | (simp only [rm_X1_shade_i, rm_X1_cellBy_f]; omega), by first | exact Nat.le_of_ble_eq_true rfl | (simp only [rm_X1_shade_i, rm_X1_cellBy_f]; omega)⟩ dX1_shade_9 (Nat.le_of_ble_eq_true rfl) rfl rfl) (fun _ H1_ hk_ hp_ hd_ => fr_sel (ws := [oC h ad sn hsh, oX (ad 1) 1 [.ref (ad 11), .int (nI L), .int stp, .int why]]) (wc := []) (ws' := [oC h ad sn hsh, oX (ad 1) 1 [.ref (ad 11), .int (nI L), .int stp, .int why]]) [] [(false, 0), (false, 1)] rfl rfl (by decide) hP hD hk_ hF_1 hp_ hd_) (fun ce9 q9 u_1 H locs h_1 hP hD hS hce9 hcv9 hcl9 => ?_)
  have hP : va_P G.1 vwCl [oC h ad sn hsh, oX (ad 1) 1 [.ref (ad 11), .int (nI L), .int stp, .int why]] _ := hP
  have hD : va_D A [oC h ad sn hsh, oX (ad 1) 1 [.ref (ad 11), .int (nI L), .int stp, .int why]] := hD
  rw [hQQ]
  exact rt_x hexT hlk (()) hP hD hS hce9 hcv9 hcl9 (by first | exact Nat.le_of_ble_eq_true rfl | (simp only [rm_X1_shade_i, rm_X1_cellBy_f]; omega) | omega) (by first | exact Nat.le_of_ble_eq_true rfl | (simp only [rm_X1_shade_i, rm_X1_cellBy_f]; omega) | omega) trivial
def rm_X1_bandOf_i : Room := ({ frames := 11, cells := 1, slots := 6, locals := 181 } : Room)
set_option maxHeartbeats 400000 in
set_option maxRecDepth 100000 in
theorem t_X1_bandOf_i (l : Launch) (G : GG) (b0 sz : Nat) (h : Nat) (ad : Nat → Nat) (sn : Value) (hsh : Int64) (L : Nat) (stp why : Int32) (r c_ : Int32) (htr : l.stackTraces = false) (hL1 : 1 ≤ L) (hL : L ≤ 3) (hce : isCe r c_ = false) : CTX l yX1_bandOf cX1_bandOf 3 (some FieldType.int) (rm_X1_bandOf_i) G b0 [.ref h, .int r, .int c_] [oC h ad sn hsh, oX (ad 1) 1 [.ref (ad 11), .int (nI L), .int stp, .int why], aR G (ad 2) 3 (orF ad), oX (ad (15 + L)) 2 [.ref (ad (16 + 3 * L)), .ref (ad (17 + 3 * L)), .ref (ad (18 + 3 * L)), .int (nI 64)]] sz "java/lang/IndexOutOfBoundsException" (fun (_ : Unit) => True) (fun (_ : Unit) => [oC h ad sn hsh, oX (ad 1) 1 [.ref (ad 11), .int (nI L), .int stp, .int why], aR G (ad 2) 3 (orF ad), oX (ad (15 + L)) 2 [.ref (ad (16 + 3 * L)), .ref (ad (17 + 3 * L)), .ref (ad (18 + 3 * L)), .int (nI 64)]]) := by
  refine CTX.go (by decide) (Nat.le_of_ble_eq_true rfl) (fun p e s m below meth c A ls AR QQ hx hb hr hlk hml hown hnm hts hE hA hAb hsz hP hD hS hl hexT hQQ => ?_)
  have hK := hE.1
  have hown : s.vm.findClass RX1 = some m.cls := hown
  have hl : lv_has ls 3 [(0, .ref h), (1, .int r), (2, .int c_)] := hl
  clear hsz
  refine lv_aload_n hx hb dX1_bandOf_0 rfl (lv_at hl 0 rfl) ?_
  refine fin_r (ws' := (fun (_ : Unit) => [oC h ad sn hsh, oX (ad 1) 1 [.ref (ad 11), .int (nI L), .int stp, .int why], aR G (ad 2) 3 (orF ad), oX (ad (15 + L)) 2 [.ref (ad (16 + 3 * L)), .ref (ad (17 + 3 * L)), .ref (ad (18 + 3 * L)), .int (nI 64)]])) hA hS hP hD [0, 1, 2] rfl [(true, 0), (true, 1), (true, 2), (false, 3)] (fun _ => rfl) (by decide) (run_V (As := []) (rest := []) (n9 := 0) hx hb hml hown hts hE hAb hl.1 hS hP hD [0, 1, 2] rfl (by decide) (t_X1_order l G b0 _ h ad sn hsh L stp why (by omega) (by omega)) (lw_V q1083 q1085 qs22 q106 q1086) 0 rfl rfl ⟨rfl, by decide, by decide, by decide +kernel⟩ ⟨Nat.le_of_ble_eq_true rfl, Nat.le_of_ble_eq_true rfl⟩ ⟨by first | exact Nat.le_of_ble_eq_true rfl | (simp only [rm_X1_bandOf_i, rm_X1_order]; omega), by first | exact Nat.le_of_ble_eq_true rfl | (simp only [rm_X1_bandOf_i, rm_X1_order]; omega)⟩ dX1_bandOf_1 (Nat.le_of_ble_eq_true rfl) rfl rfl) (fun u_1 H locs h_1 hP hD hS => ?_)
  have hP : va_P G.1 vwCl [oC h ad sn hsh, oX (ad 1) 1 [.ref (ad 11), .int (nI L), .int stp, .int why], aR G (ad 2) 3 (orF ad), oX (ad (15 + L)) 2 [.ref (ad (16 + 3 * L)), .ref (ad (17 + 3 * L)), .ref (ad (18 + 3 * L)), .int (nI 64)]] _ := hP
  have hD : va_D A [oC h ad sn hsh, oX (ad 1) 1 [.ref (ad 11), .int (nI L), .int stp, .int why], aR G (ad 2) 3 (orF ad), oX (ad (15 + L)) 2 [.ref (ad (16 + 3 * L)), .ref (ad (17 + 3 * L)), .ref (ad (18 + 3 * L)), .int (nI 64)]] := hD
  refine W.eq (g2 := F0 m 4 ls [.ref (ad (15 + L))]) rfl ?_
  refine va_getN (D := G.1) (ci := 2) (v := .ref (ad (18 + 3 * L))) (C := RX3) (T := TX3) (N := 4) hx hb hts in_X3 hown hK hP 3 rfl rfl 2 (by decide) (hE.nb q349 rfl) (fun _ h9 => h9) rfl dX1_bandOf_4 ?_
  refine lv_iload_n hx hb dX1_bandOf_7 rfl (lv_at hl 1 rfl) ?_
  refine lv_iload_n hx hb dX1_bandOf_8 rfl (lv_at hl 2 rfl) ?_
  have hF_2 := fr_free (wc := []) [] rfl hA hS hD
  refine fin_x (ws' := (fun (_ : Unit) => [oC h ad sn hsh, oX (ad 1) 1 [.ref (ad 11), .int (nI L), .int stp, .int why], aR G (ad 2) 3 (orF ad), oX (ad (15 + L)) 2 [.ref (ad (16 + 3 * L)), .ref (ad (17 + 3 * L)), .ref (ad (18 + 3 * L)), .int (nI 64)]])) hS hF_2 (run_SX (As := [.int r, .int c_]) (rest := [.ref (ad (18 + 3 * L))]) (n9 := 2) hx hb hml hown hts hE hAb hl.1 hS hP hD [] rfl (by decide) (t_X1_cellBy_f l G b0 _ r c_ (by omega) (by omega)) (lw_S q1360 q1361 q106 q1362) ⟨by decide, by decide, by decide +kernel⟩ ⟨Nat.le_of_ble_eq_true rfl, Nat.le_of_ble_eq_true rfl⟩ ⟨by first | exact Nat.le_of_ble_eq_true rfl | (simp only [rm_X1_bandOf_i, rm_X1_cellBy_f, rm_X1_order]; omega), by first | exact Nat.le_of_ble_eq_true rfl | (simp only [rm_X1_bandOf_i, rm_X1_cellBy_f, rm_X1_order]; omega)⟩ dX1_bandOf_9 (Nat.le_of_ble_eq_true rfl) rfl rfl) (fun _ H1_ hk_ hp_ hd_ => fr_sel (ws := [oC h ad sn hsh, oX (ad 1) 1 [.ref (ad 11), .int (nI L), .int stp, .int why], aR G (ad 2) 3 (orF ad), oX (ad (15 + L)) 2 [.ref (ad (16 + 3 * L)), .ref (ad (17 + 3 * L)), .ref (ad (18 + 3 * L)), .int (nI 64)]]) (wc := []) (ws' := [oC h ad sn hsh, oX (ad 1) 1 [.ref (ad 11), .int (nI L), .int stp, .int why], aR G (ad 2) 3 (orF ad), oX (ad (15 + L)) 2 [.ref (ad (16 + 3 * L)), .ref (ad (17 + 3 * L)), .ref (ad (18 + 3 * L)), .int (nI 64)]]) [] [(false, 0), (false, 1), (false, 2), (false, 3)] rfl rfl (by decide) hP hD hk_ hF_2 hp_ hd_) (fun ce9 q9 u_2 H locs h_2 hP hD hS hce9 hcv9 hcl9 => ?_)
  have hP : va_P G.1 vwCl [oC h ad sn hsh, oX (ad 1) 1 [.ref (ad 11), .int (nI L), .int stp, .int why], aR G (ad 2) 3 (orF ad), oX (ad (15 + L)) 2 [.ref (ad (16 + 3 * L)), .ref (ad (17 + 3 * L)), .ref (ad (18 + 3 * L)), .int (nI 64)]] _ := hP
  have hD : va_D A [oC h ad sn hsh, oX (ad 1) 1 [.ref (ad 11), .int (nI L), .int stp, .int why], aR G (ad 2) 3 (orF ad), oX (ad (15 + L)) 2 [.ref (ad (16 + 3 * L)), .ref (ad (17 + 3 * L)), .ref (ad (18 + 3 * L)), .int (nI 64)]] := hD
  rw [hQQ]
  exact rt_x hexT hlk (()) hP hD hS hce9 hcv9 hcl9 (by first | exact Nat.le_of_ble_eq_true rfl | (simp only [rm_X1_bandOf_i, rm_X1_order, rm_X1_cellBy_f]; omega) | omega) (by first | exact Nat.le_of_ble_eq_true rfl | (simp only [rm_X1_bandOf_i, rm_X1_order, rm_X1_cellBy_f]; omega) | omega) trivial
def rm_X1_placeOf_i : Room := ({ frames := 11, cells := 1, slots := 6, locals := 181 } : Room)
set_option maxHeartbeats 400000 in
set_option maxRecDepth 100000 in
theorem t_X1_placeOf_i (l : Launch) (G : GG) (b0 sz : Nat) (h : Nat) (ad : Nat → Nat) (sn : Value) (hsh : Int64) (L : Nat) (stp why : Int32) (r c_ : Int32) (htr : l.stackTraces = false) (hL1 : 1 ≤ L) (hL : L ≤ 3) (hce : isCe r c_ = false) : CTX l yX1_placeOf cX1_placeOf 3 (some FieldType.int) (rm_X1_placeOf_i) G b0 [.ref h, .int r, .int c_] [oC h ad sn hsh, oX (ad 1) 1 [.ref (ad 11), .int (nI L), .int stp, .int why], aR G (ad 2) 3 (orF ad), oX (ad (15 + L)) 2 [.ref (ad (16 + 3 * L)), .ref (ad (17 + 3 * L)), .ref (ad (18 + 3 * L)), .int (nI 64)]] sz "java/lang/IndexOutOfBoundsException" (fun (_ : Unit) => True) (fun (_ : Unit) => [oC h ad sn hsh, oX (ad 1) 1 [.ref (ad 11), .int (nI L), .int stp, .int why], aR G (ad 2) 3 (orF ad), oX (ad (15 + L)) 2 [.ref (ad (16 + 3 * L)), .ref (ad (17 + 3 * L)), .ref (ad (18 + 3 * L)), .int (nI 64)]]) := by
  refine CTX.go (by decide) (Nat.le_of_ble_eq_true rfl) (fun p e s m below meth c A ls AR QQ hx hb hr hlk hml hown hnm hts hE hA hAb hsz hP hD hS hl hexT hQQ => ?_)
  have hK := hE.1
  have hown : s.vm.findClass RX1 = some m.cls := hown
  have hl : lv_has ls 3 [(0, .ref h), (1, .int r), (2, .int c_)] := hl
  clear hsz
  refine lv_aload_n hx hb dX1_placeOf_0 rfl (lv_at hl 0 rfl) ?_
  refine fin_r (ws' := (fun (_ : Unit) => [oC h ad sn hsh, oX (ad 1) 1 [.ref (ad 11), .int (nI L), .int stp, .int why], aR G (ad 2) 3 (orF ad), oX (ad (15 + L)) 2 [.ref (ad (16 + 3 * L)), .ref (ad (17 + 3 * L)), .ref (ad (18 + 3 * L)), .int (nI 64)]])) hA hS hP hD [0, 1, 2] rfl [(true, 0), (true, 1), (true, 2), (false, 3)] (fun _ => rfl) (by decide) (run_V (As := []) (rest := []) (n9 := 0) hx hb hml hown hts hE hAb hl.1 hS hP hD [0, 1, 2] rfl (by decide) (t_X1_order l G b0 _ h ad sn hsh L stp why (by omega) (by omega)) (lw_V q1083 q1085 qs22 q106 q1086) 0 rfl rfl ⟨rfl, by decide, by decide, by decide +kernel⟩ ⟨Nat.le_of_ble_eq_true rfl, Nat.le_of_ble_eq_true rfl⟩ ⟨by first | exact Nat.le_of_ble_eq_true rfl | (simp only [rm_X1_placeOf_i, rm_X1_order]; omega), by first | exact Nat.le_of_ble_eq_true rfl | (simp only [rm_X1_placeOf_i, rm_X1_order]; omega)⟩ dX1_placeOf_1 (Nat.le_of_ble_eq_true rfl) rfl rfl) (fun u_1 H locs h_1 hP hD hS => ?_)
  have hP : va_P G.1 vwCl [oC h ad sn hsh, oX (ad 1) 1 [.ref (ad 11), .int (nI L), .int stp, .int why], aR G (ad 2) 3 (orF ad), oX (ad (15 + L)) 2 [.ref (ad (16 + 3 * L)), .ref (ad (17 + 3 * L)), .ref (ad (18 + 3 * L)), .int (nI 64)]] _ := hP
  have hD : va_D A [oC h ad sn hsh, oX (ad 1) 1 [.ref (ad 11), .int (nI L), .int stp, .int why], aR G (ad 2) 3 (orF ad), oX (ad (15 + L)) 2 [.ref (ad (16 + 3 * L)), .ref (ad (17 + 3 * L)), .ref (ad (18 + 3 * L)), .int (nI 64)]] := hD
  refine W.eq (g2 := F0 m 4 ls [.ref (ad (15 + L))]) rfl ?_
  refine va_getN (D := G.1) (ci := 2) (v := .ref (ad (17 + 3 * L))) (C := RX3) (T := TX3) (N := 4) hx hb hts in_X3 hown hK hP 3 rfl rfl 1 (by decide) (hE.nb q347 rfl) (fun _ h9 => h9) rfl dX1_placeOf_4 ?_
  refine lv_iload_n hx hb dX1_placeOf_7 rfl (lv_at hl 1 rfl) ?_
  refine lv_iload_n hx hb dX1_placeOf_8 rfl (lv_at hl 2 rfl) ?_
  have hF_2 := fr_free (wc := []) [] rfl hA hS hD
  refine fin_x (ws' := (fun (_ : Unit) => [oC h ad sn hsh, oX (ad 1) 1 [.ref (ad 11), .int (nI L), .int stp, .int why], aR G (ad 2) 3 (orF ad), oX (ad (15 + L)) 2 [.ref (ad (16 + 3 * L)), .ref (ad (17 + 3 * L)), .ref (ad (18 + 3 * L)), .int (nI 64)]])) hS hF_2 (run_SX (As := [.int r, .int c_]) (rest := [.ref (ad (17 + 3 * L))]) (n9 := 2) hx hb hml hown hts hE hAb hl.1 hS hP hD [] rfl (by decide) (t_X1_cellBy_f l G b0 _ r c_ (by omega) (by omega)) (lw_S q1360 q1361 q106 q1362) ⟨by decide, by decide, by decide +kernel⟩ ⟨Nat.le_of_ble_eq_true rfl, Nat.le_of_ble_eq_true rfl⟩ ⟨by first | exact Nat.le_of_ble_eq_true rfl | (simp only [rm_X1_placeOf_i, rm_X1_cellBy_f, rm_X1_order]; omega), by first | exact Nat.le_of_ble_eq_true rfl | (simp only [rm_X1_placeOf_i, rm_X1_cellBy_f, rm_X1_order]; omega)⟩ dX1_placeOf_9 (Nat.le_of_ble_eq_true rfl) rfl rfl) (fun _ H1_ hk_ hp_ hd_ => fr_sel (ws := [oC h ad sn hsh, oX (ad 1) 1 [.ref (ad 11), .int (nI L), .int stp, .int why], aR G (ad 2) 3 (orF ad), oX (ad (15 + L)) 2 [.ref (ad (16 + 3 * L)), .ref (ad (17 + 3 * L)), .ref (ad (18 + 3 * L)), .int (nI 64)]]) (wc := []) (ws' := [oC h ad sn hsh, oX (ad 1) 1 [.ref (ad 11), .int (nI L), .int stp, .int why], aR G (ad 2) 3 (orF ad), oX (ad (15 + L)) 2 [.ref (ad (16 + 3 * L)), .ref (ad (17 + 3 * L)), .ref (ad (18 + 3 * L)), .int (nI 64)]]) [] [(false, 0), (false, 1), (false, 2), (false, 3)] rfl rfl (by decide) hP hD hk_ hF_2 hp_ hd_) (fun ce9 q9 u_2 H locs h_2 hP hD hS hce9 hcv9 hcl9 => ?_)
  have hP : va_P G.1 vwCl [oC h ad sn hsh, oX (ad 1) 1 [.ref (ad 11), .int (nI L), .int stp, .int why], aR G (ad 2) 3 (orF ad), oX (ad (15 + L)) 2 [.ref (ad (16 + 3 * L)), .ref (ad (17 + 3 * L)), .ref (ad (18 + 3 * L)), .int (nI 64)]] _ := hP
  have hD : va_D A [oC h ad sn hsh, oX (ad 1) 1 [.ref (ad 11), .int (nI L), .int stp, .int why], aR G (ad 2) 3 (orF ad), oX (ad (15 + L)) 2 [.ref (ad (16 + 3 * L)), .ref (ad (17 + 3 * L)), .ref (ad (18 + 3 * L)), .int (nI 64)]] := hD
  rw [hQQ]
  exact rt_x hexT hlk (()) hP hD hS hce9 hcv9 hcl9 (by first | exact Nat.le_of_ble_eq_true rfl | (simp only [rm_X1_placeOf_i, rm_X1_order, rm_X1_cellBy_f]; omega) | omega) (by first | exact Nat.le_of_ble_eq_true rfl | (simp only [rm_X1_placeOf_i, rm_X1_order, rm_X1_cellBy_f]; omega) | omega) trivial
def rm_X1_dropCrumbs_a : Room := ({ frames := 11, cells := 1, slots := 6, locals := 180 } : Room)
set_option maxHeartbeats 400000 in
set_option maxRecDepth 100000 in
theorem t_X1_dropCrumbs_a (l : Launch) (G : GG) (b0 sz : Nat) (h : Nat) (ad : Nat → Nat) (sn : Value) (hsh : Int64) (t : Int32) (htr : l.stackTraces = false) (htt : isSh t = false) : CTX l yX1_dropCrumbs cX1_dropCrumbs 3 (some FieldType.int) (rm_X1_dropCrumbs_a) G b0 [.ref h, .int t] [oC h ad sn hsh] sz "java/lang/IllegalArgumentException" (fun (_ : Unit) => True) (fun (_ : Unit) => [oC h ad sn hsh]) := by
  refine CTX.go (by decide) (Nat.le_of_ble_eq_true rfl) (fun p e s m below meth c A ls AR QQ hx hb hr hlk hml hown hnm hts hE hA hAb hsz hP hD hS hl hexT hQQ => ?_)
  have hK := hE.1
  have hown : s.vm.findClass RX1 = some m.cls := hown
  have hl : lv_has ls 3 [(0, .ref h), (1, .int t)] := hl
  clear hsz
  refine lv_iload_n hx hb dX1_dropCrumbs_0 rfl (lv_at hl 1 rfl) ?_
  have hF_1 := fr_free (wc := []) [] rfl hA hS hD
  refine fin_x (ws' := (fun (_ : Unit) => [oC h ad sn hsh])) hS hF_1 (run_SX (As := [.int t]) (rest := []) (n9 := 1) hx hb hml hown hts hE hAb hl.1 hS hP hD [] rfl (by decide) (t_X1_needShade_f l G b0 _ t (by omega) (by omega)) (lw_S q1372 q1373 q106 q1374) ⟨by decide, by decide, by decide +kernel⟩ ⟨Nat.le_of_ble_eq_true rfl, Nat.le_of_ble_eq_true rfl⟩ ⟨by first | exact Nat.le_of_ble_eq_true rfl | (simp only [rm_X1_dropCrumbs_a, rm_X1_needShade_f]; omega), by first | exact Nat.le_of_ble_eq_true rfl | (simp only [rm_X1_dropCrumbs_a, rm_X1_needShade_f]; omega)⟩ dX1_dropCrumbs_1 (Nat.le_of_ble_eq_true rfl) rfl rfl) (fun _ H1_ hk_ hp_ hd_ => fr_sel (ws := [oC h ad sn hsh]) (wc := []) (ws' := [oC h ad sn hsh]) [] [(false, 0)] rfl rfl (by decide) hP hD hk_ hF_1 hp_ hd_) (fun ce9 q9 u_1 H locs h_1 hP hD hS hce9 hcv9 hcl9 => ?_)
  have hP : va_P G.1 vwCl [oC h ad sn hsh] _ := hP
  have hD : va_D A [oC h ad sn hsh] := hD
  rw [hQQ]
  exact rt_x hexT hlk (()) hP hD hS hce9 hcv9 hcl9 (by first | exact Nat.le_of_ble_eq_true rfl | (simp only [rm_X1_dropCrumbs_a, rm_X1_needShade_f]; omega) | omega) (by first | exact Nat.le_of_ble_eq_true rfl | (simp only [rm_X1_dropCrumbs_a, rm_X1_needShade_f]; omega) | omega) trivial
def rm_X1_crumbs_a : Room := ({ frames := 11, cells := 1, slots := 6, locals := 180 } : Room)
set_option maxHeartbeats 400000 in
set_option maxRecDepth 100000 in
theorem t_X1_crumbs_a (l : Launch) (G : GG) (b0 sz : Nat) (h : Nat) (ad : Nat → Nat) (sn : Value) (hsh : Int64) (t : Int32) (htr : l.stackTraces = false) (htt : isSh t = false) : CTX l yX1_crumbs cX1_crumbs 2 (some FieldType.int) (rm_X1_crumbs_a) G b0 [.ref h, .int t] [oC h ad sn hsh] sz "java/lang/IllegalArgumentException" (fun (_ : Unit) => True) (fun (_ : Unit) => [oC h ad sn hsh]) := by
  refine CTX.go (by decide) (Nat.le_of_ble_eq_true rfl) (fun p e s m below meth c A ls AR QQ hx hb hr hlk hml hown hnm hts hE hA hAb hsz hP hD hS hl hexT hQQ => ?_)
  have hK := hE.1
  have hown : s.vm.findClass RX1 = some m.cls := hown
  have hl : lv_has ls 2 [(0, .ref h), (1, .int t)] := hl
  clear hsz
  refine lv_iload_n hx hb dX1_crumbs_0 rfl (lv_at hl 1 rfl) ?_
  have hF_1 := fr_free (wc := []) [] rfl hA hS hD
  refine fin_x (ws' := (fun (_ : Unit) => [oC h ad sn hsh])) hS hF_1 (run_SX (As := [.int t]) (rest := []) (n9 := 1) hx hb hml hown hts hE hAb hl.1 hS hP hD [] rfl (by decide) (t_X1_needShade_f l G b0 _ t (by omega) (by omega)) (lw_S q1372 q1373 q106 q1374) ⟨by decide, by decide, by decide +kernel⟩ ⟨Nat.le_of_ble_eq_true rfl, Nat.le_of_ble_eq_true rfl⟩ ⟨by first | exact Nat.le_of_ble_eq_true rfl | (simp only [rm_X1_crumbs_a, rm_X1_needShade_f]; omega), by first | exact Nat.le_of_ble_eq_true rfl | (simp only [rm_X1_crumbs_a, rm_X1_needShade_f]; omega)⟩ dX1_crumbs_1 (Nat.le_of_ble_eq_true rfl) rfl rfl) (fun _ H1_ hk_ hp_ hd_ => fr_sel (ws := [oC h ad sn hsh]) (wc := []) (ws' := [oC h ad sn hsh]) [] [(false, 0)] rfl rfl (by decide) hP hD hk_ hF_1 hp_ hd_) (fun ce9 q9 u_1 H locs h_1 hP hD hS hce9 hcv9 hcl9 => ?_)
  have hP : va_P G.1 vwCl [oC h ad sn hsh] _ := hP
  have hD : va_D A [oC h ad sn hsh] := hD
  rw [hQQ]
  exact rt_x hexT hlk (()) hP hD hS hce9 hcv9 hcl9 (by first | exact Nat.le_of_ble_eq_true rfl | (simp only [rm_X1_crumbs_a, rm_X1_needShade_f]; omega) | omega) (by first | exact Nat.le_of_ble_eq_true rfl | (simp only [rm_X1_crumbs_a, rm_X1_needShade_f]; omega) | omega) trivial
def rm_X1_cost_a : Room := ({ frames := 11, cells := 1, slots := 6, locals := 180 } : Room)
set_option maxHeartbeats 400000 in
set_option maxRecDepth 100000 in
theorem t_X1_cost_a (l : Launch) (G : GG) (b0 sz : Nat) (h : Nat) (ad : Nat → Nat) (sn : Value) (hsh : Int64) (t : Int32) (htr : l.stackTraces = false) (htt : isSh t = false) : CTX l yX1_cost cX1_cost 2 (some FieldType.int) (rm_X1_cost_a) G b0 [.ref h, .int t] [oC h ad sn hsh] sz "java/lang/IllegalArgumentException" (fun (_ : Unit) => True) (fun (_ : Unit) => [oC h ad sn hsh]) := by
  refine CTX.go (by decide) (Nat.le_of_ble_eq_true rfl) (fun p e s m below meth c A ls AR QQ hx hb hr hlk hml hown hnm hts hE hA hAb hsz hP hD hS hl hexT hQQ => ?_)
  have hK := hE.1
  have hown : s.vm.findClass RX1 = some m.cls := hown
  have hl : lv_has ls 2 [(0, .ref h), (1, .int t)] := hl
  clear hsz
  refine lv_iload_n hx hb dX1_cost_0 rfl (lv_at hl 1 rfl) ?_
  have hF_1 := fr_free (wc := []) [] rfl hA hS hD
  refine fin_x (ws' := (fun (_ : Unit) => [oC h ad sn hsh])) hS hF_1 (run_SX (As := [.int t]) (rest := []) (n9 := 1) hx hb hml hown hts hE hAb hl.1 hS hP hD [] rfl (by decide) (t_X1_needShade_f l G b0 _ t (by omega) (by omega)) (lw_S q1372 q1373 q106 q1374) ⟨by decide, by decide, by decide +kernel⟩ ⟨Nat.le_of_ble_eq_true rfl, Nat.le_of_ble_eq_true rfl⟩ ⟨by first | exact Nat.le_of_ble_eq_true rfl | (simp only [rm_X1_cost_a, rm_X1_needShade_f]; omega), by first | exact Nat.le_of_ble_eq_true rfl | (simp only [rm_X1_cost_a, rm_X1_needShade_f]; omega)⟩ dX1_cost_1 (Nat.le_of_ble_eq_true rfl) rfl rfl) (fun _ H1_ hk_ hp_ hd_ => fr_sel (ws := [oC h ad sn hsh]) (wc := []) (ws' := [oC h ad sn hsh]) [] [(false, 0)] rfl rfl (by decide) hP hD hk_ hF_1 hp_ hd_) (fun ce9 q9 u_1 H locs h_1 hP hD hS hce9 hcv9 hcl9 => ?_)
  have hP : va_P G.1 vwCl [oC h ad sn hsh] _ := hP
  have hD : va_D A [oC h ad sn hsh] := hD
  rw [hQQ]
  exact rt_x hexT hlk (()) hP hD hS hce9 hcv9 hcl9 (by first | exact Nat.le_of_ble_eq_true rfl | (simp only [rm_X1_cost_a, rm_X1_needShade_f]; omega) | omega) (by first | exact Nat.le_of_ble_eq_true rfl | (simp only [rm_X1_cost_a, rm_X1_needShade_f]; omega) | omega) trivial
def rm_X1_worst_a : Room := ({ frames := 11, cells := 1, slots := 6, locals := 180 } : Room)
set_option maxHeartbeats 400000 in
set_option maxRecDepth 100000 in
theorem t_X1_worst_a (l : Launch) (G : GG) (b0 sz : Nat) (h : Nat) (ad : Nat → Nat) (sn : Value) (hsh : Int64) (t : Int32) (htr : l.stackTraces = false) (htt : isSh t = false) : CTX l yX1_worst cX1_worst 2 (some FieldType.int) (rm_X1_worst_a) G b0 [.ref h, .int t] [oC h ad sn hsh] sz "java/lang/IllegalArgumentException" (fun (_ : Unit) => True) (fun (_ : Unit) => [oC h ad sn hsh]) := by
  refine CTX.go (by decide) (Nat.le_of_ble_eq_true rfl) (fun p e s m below meth c A ls AR QQ hx hb hr hlk hml hown hnm hts hE hA hAb hsz hP hD hS hl hexT hQQ => ?_)
  have hK := hE.1
  have hown : s.vm.findClass RX1 = some m.cls := hown
  have hl : lv_has ls 2 [(0, .ref h), (1, .int t)] := hl
  clear hsz
  refine lv_iload_n hx hb dX1_worst_0 rfl (lv_at hl 1 rfl) ?_
  have hF_1 := fr_free (wc := []) [] rfl hA hS hD
  refine fin_x (ws' := (fun (_ : Unit) => [oC h ad sn hsh])) hS hF_1 (run_SX (As := [.int t]) (rest := []) (n9 := 1) hx hb hml hown hts hE hAb hl.1 hS hP hD [] rfl (by decide) (t_X1_needShade_f l G b0 _ t (by omega) (by omega)) (lw_S q1372 q1373 q106 q1374) ⟨by decide, by decide, by decide +kernel⟩ ⟨Nat.le_of_ble_eq_true rfl, Nat.le_of_ble_eq_true rfl⟩ ⟨by first | exact Nat.le_of_ble_eq_true rfl | (simp only [rm_X1_worst_a, rm_X1_needShade_f]; omega), by first | exact Nat.le_of_ble_eq_true rfl | (simp only [rm_X1_worst_a, rm_X1_needShade_f]; omega)⟩ dX1_worst_1 (Nat.le_of_ble_eq_true rfl) rfl rfl) (fun _ H1_ hk_ hp_ hd_ => fr_sel (ws := [oC h ad sn hsh]) (wc := []) (ws' := [oC h ad sn hsh]) [] [(false, 0)] rfl rfl (by decide) hP hD hk_ hF_1 hp_ hd_) (fun ce9 q9 u_1 H locs h_1 hP hD hS hce9 hcv9 hcl9 => ?_)
  have hP : va_P G.1 vwCl [oC h ad sn hsh] _ := hP
  have hD : va_D A [oC h ad sn hsh] := hD
  rw [hQQ]
  exact rt_x hexT hlk (()) hP hD hS hce9 hcv9 hcl9 (by first | exact Nat.le_of_ble_eq_true rfl | (simp only [rm_X1_worst_a, rm_X1_needShade_f]; omega) | omega) (by first | exact Nat.le_of_ble_eq_true rfl | (simp only [rm_X1_worst_a, rm_X1_needShade_f]; omega) | omega) trivial
def rm_X1_trees_a : Room := ({ frames := 11, cells := 1, slots := 6, locals := 180 } : Room)
set_option maxHeartbeats 400000 in
set_option maxRecDepth 100000 in
theorem t_X1_trees_a (l : Launch) (G : GG) (b0 sz : Nat) (h : Nat) (ad : Nat → Nat) (sn : Value) (hsh : Int64) (t : Int32) (htr : l.stackTraces = false) (htt : isSh t = false) : CTX l yX1_trees cX1_trees 2 (some FieldType.int) (rm_X1_trees_a) G b0 [.ref h, .int t] [oC h ad sn hsh] sz "java/lang/IllegalArgumentException" (fun (_ : Unit) => True) (fun (_ : Unit) => [oC h ad sn hsh]) := by
  refine CTX.go (by decide) (Nat.le_of_ble_eq_true rfl) (fun p e s m below meth c A ls AR QQ hx hb hr hlk hml hown hnm hts hE hA hAb hsz hP hD hS hl hexT hQQ => ?_)
  have hK := hE.1
  have hown : s.vm.findClass RX1 = some m.cls := hown
  have hl : lv_has ls 2 [(0, .ref h), (1, .int t)] := hl
  clear hsz
  refine lv_iload_n hx hb dX1_trees_0 rfl (lv_at hl 1 rfl) ?_
  have hF_1 := fr_free (wc := []) [] rfl hA hS hD
  refine fin_x (ws' := (fun (_ : Unit) => [oC h ad sn hsh])) hS hF_1 (run_SX (As := [.int t]) (rest := []) (n9 := 1) hx hb hml hown hts hE hAb hl.1 hS hP hD [] rfl (by decide) (t_X1_needShade_f l G b0 _ t (by omega) (by omega)) (lw_S q1372 q1373 q106 q1374) ⟨by decide, by decide, by decide +kernel⟩ ⟨Nat.le_of_ble_eq_true rfl, Nat.le_of_ble_eq_true rfl⟩ ⟨by first | exact Nat.le_of_ble_eq_true rfl | (simp only [rm_X1_trees_a, rm_X1_needShade_f]; omega), by first | exact Nat.le_of_ble_eq_true rfl | (simp only [rm_X1_trees_a, rm_X1_needShade_f]; omega)⟩ dX1_trees_1 (Nat.le_of_ble_eq_true rfl) rfl rfl) (fun _ H1_ hk_ hp_ hd_ => fr_sel (ws := [oC h ad sn hsh]) (wc := []) (ws' := [oC h ad sn hsh]) [] [(false, 0)] rfl rfl (by decide) hP hD hk_ hF_1 hp_ hd_) (fun ce9 q9 u_1 H locs h_1 hP hD hS hce9 hcv9 hcl9 => ?_)
  have hP : va_P G.1 vwCl [oC h ad sn hsh] _ := hP
  have hD : va_D A [oC h ad sn hsh] := hD
  rw [hQQ]
  exact rt_x hexT hlk (()) hP hD hS hce9 hcv9 hcl9 (by first | exact Nat.le_of_ble_eq_true rfl | (simp only [rm_X1_trees_a, rm_X1_needShade_f]; omega) | omega) (by first | exact Nat.le_of_ble_eq_true rfl | (simp only [rm_X1_trees_a, rm_X1_needShade_f]; omega) | omega) trivial
def rm_X1_treesFromBelow_a : Room := ({ frames := 11, cells := 1, slots := 6, locals := 180 } : Room)
set_option maxHeartbeats 400000 in
set_option maxRecDepth 100000 in
theorem t_X1_treesFromBelow_a (l : Launch) (G : GG) (b0 sz : Nat) (h : Nat) (ad : Nat → Nat) (sn : Value) (hsh : Int64) (t : Int32) (htr : l.stackTraces = false) (htt : isSh t = false) : CTX l yX1_treesFromBelow cX1_treesFromBelow 2 (some FieldType.int) (rm_X1_treesFromBelow_a) G b0 [.ref h, .int t] [oC h ad sn hsh] sz "java/lang/IllegalArgumentException" (fun (_ : Unit) => True) (fun (_ : Unit) => [oC h ad sn hsh]) := by
  refine CTX.go (by decide) (Nat.le_of_ble_eq_true rfl) (fun p e s m below meth c A ls AR QQ hx hb hr hlk hml hown hnm hts hE hA hAb hsz hP hD hS hl hexT hQQ => ?_)
  have hK := hE.1
  have hown : s.vm.findClass RX1 = some m.cls := hown
  have hl : lv_has ls 2 [(0, .ref h), (1, .int t)] := hl
  clear hsz
  refine lv_iload_n hx hb dX1_treesFromBelow_0 rfl (lv_at hl 1 rfl) ?_
  have hF_1 := fr_free (wc := []) [] rfl hA hS hD
  refine fin_x (ws' := (fun (_ : Unit) => [oC h ad sn hsh])) hS hF_1 (run_SX (As := [.int t]) (rest := []) (n9 := 1) hx hb hml hown hts hE hAb hl.1 hS hP hD [] rfl (by decide) (t_X1_needShade_f l G b0 _ t (by omega) (by omega)) (lw_S q1372 q1373 q106 q1374) ⟨by decide, by decide, by decide +kernel⟩ ⟨Nat.le_of_ble_eq_true rfl, Nat.le_of_ble_eq_true rfl⟩ ⟨by first | exact Nat.le_of_ble_eq_true rfl | (simp only [rm_X1_treesFromBelow_a, rm_X1_needShade_f]; omega), by first | exact Nat.le_of_ble_eq_true rfl | (simp only [rm_X1_treesFromBelow_a, rm_X1_needShade_f]; omega)⟩ dX1_treesFromBelow_1 (Nat.le_of_ble_eq_true rfl) rfl rfl) (fun _ H1_ hk_ hp_ hd_ => fr_sel (ws := [oC h ad sn hsh]) (wc := []) (ws' := [oC h ad sn hsh]) [] [(false, 0)] rfl rfl (by decide) hP hD hk_ hF_1 hp_ hd_) (fun ce9 q9 u_1 H locs h_1 hP hD hS hce9 hcv9 hcl9 => ?_)
  have hP : va_P G.1 vwCl [oC h ad sn hsh] _ := hP
  have hD : va_D A [oC h ad sn hsh] := hD
  rw [hQQ]
  exact rt_x hexT hlk (()) hP hD hS hce9 hcv9 hcl9 (by first | exact Nat.le_of_ble_eq_true rfl | (simp only [rm_X1_treesFromBelow_a, rm_X1_needShade_f]; omega) | omega) (by first | exact Nat.le_of_ble_eq_true rfl | (simp only [rm_X1_treesFromBelow_a, rm_X1_needShade_f]; omega) | omega) trivial
def rm_X1_codeLengthWithout_a : Room := ({ frames := 11, cells := 1, slots := 6, locals := 180 } : Room)
set_option maxHeartbeats 400000 in
set_option maxRecDepth 100000 in
theorem t_X1_codeLengthWithout_a (l : Launch) (G : GG) (b0 sz : Nat) (h : Nat) (ad : Nat → Nat) (sn : Value) (hsh : Int64) (t : Int32) (htr : l.stackTraces = false) (htt : isSh t = false) : CTX l yX1_codeLengthWithout cX1_codeLengthWithout 2 (some FieldType.int) (rm_X1_codeLengthWithout_a) G b0 [.ref h, .int t] [oC h ad sn hsh] sz "java/lang/IllegalArgumentException" (fun (_ : Unit) => True) (fun (_ : Unit) => [oC h ad sn hsh]) := by
  refine CTX.go (by decide) (Nat.le_of_ble_eq_true rfl) (fun p e s m below meth c A ls AR QQ hx hb hr hlk hml hown hnm hts hE hA hAb hsz hP hD hS hl hexT hQQ => ?_)
  have hK := hE.1
  have hown : s.vm.findClass RX1 = some m.cls := hown
  have hl : lv_has ls 2 [(0, .ref h), (1, .int t)] := hl
  clear hsz
  refine lv_iload_n hx hb dX1_codeLengthWithout_0 rfl (lv_at hl 1 rfl) ?_
  have hF_1 := fr_free (wc := []) [] rfl hA hS hD
  refine fin_x (ws' := (fun (_ : Unit) => [oC h ad sn hsh])) hS hF_1 (run_SX (As := [.int t]) (rest := []) (n9 := 1) hx hb hml hown hts hE hAb hl.1 hS hP hD [] rfl (by decide) (t_X1_needShade_f l G b0 _ t (by omega) (by omega)) (lw_S q1372 q1373 q106 q1374) ⟨by decide, by decide, by decide +kernel⟩ ⟨Nat.le_of_ble_eq_true rfl, Nat.le_of_ble_eq_true rfl⟩ ⟨by first | exact Nat.le_of_ble_eq_true rfl | (simp only [rm_X1_codeLengthWithout_a, rm_X1_needShade_f]; omega), by first | exact Nat.le_of_ble_eq_true rfl | (simp only [rm_X1_codeLengthWithout_a, rm_X1_needShade_f]; omega)⟩ dX1_codeLengthWithout_1 (Nat.le_of_ble_eq_true rfl) rfl rfl) (fun _ H1_ hk_ hp_ hd_ => fr_sel (ws := [oC h ad sn hsh]) (wc := []) (ws' := [oC h ad sn hsh]) [] [(false, 0)] rfl rfl (by decide) hP hD hk_ hF_1 hp_ hd_) (fun ce9 q9 u_1 H locs h_1 hP hD hS hce9 hcv9 hcl9 => ?_)
  have hP : va_P G.1 vwCl [oC h ad sn hsh] _ := hP
  have hD : va_D A [oC h ad sn hsh] := hD
  rw [hQQ]
  exact rt_x hexT hlk (()) hP hD hS hce9 hcv9 hcl9 (by first | exact Nat.le_of_ble_eq_true rfl | (simp only [rm_X1_codeLengthWithout_a, rm_X1_needShade_f]; omega) | omega) (by first | exact Nat.le_of_ble_eq_true rfl | (simp only [rm_X1_codeLengthWithout_a, rm_X1_needShade_f]; omega) | omega) trivial
def rm_X1_setLevels_a : Room := ({ frames := 11, cells := 1, slots := 6, locals := 180 } : Room)
set_option maxHeartbeats 400000 in
set_option maxRecDepth 100000 in
theorem t_X1_setLevels_a (l : Launch) (G : GG) (b0 sz : Nat) (h : Nat) (ad : Nat → Nat) (sn : Value) (hsh : Int64) (t : Int32) (htr : l.stackTraces = false) (htt : inB t (nI 1) (nI 3) = false) : CTX l yX1_setLevels cX1_setLevels 2 (some FieldType.int) (rm_X1_setLevels_a) G b0 [.ref h, .int t] [oC h ad sn hsh] sz "java/lang/IllegalArgumentException" (fun (_ : Unit) => True) (fun (_ : Unit) => [oC h ad sn hsh]) := by
  refine CTX.go (by decide) (Nat.le_of_ble_eq_true rfl) (fun p e s m below meth c A ls AR QQ hx hb hr hlk hml hown hnm hts hE hA hAb hsz hP hD hS hl hexT hQQ => ?_)
  have hK := hE.1
  have hown : s.vm.findClass RX1 = some m.cls := hown
  have hl : lv_has ls 2 [(0, .ref h), (1, .int t)] := hl
  clear hsz
  refine lv_iload_n hx hb dX1_setLevels_0 rfl (lv_at hl 1 rfl) ?_
  have hF_1 := fr_free (wc := []) [] rfl hA hS hD
  refine fin_x (ws' := (fun (_ : Unit) => [oC h ad sn hsh])) hS hF_1 (run_SX (As := [.int t]) (rest := []) (n9 := 1) hx hb hml hown hts hE hAb hl.1 hS hP hD [] rfl (by decide) (t_X1_needLevels_f l G b0 _ t (by omega) (by omega)) (lw_S q1441 q1442 q106 q1443) ⟨by decide, by decide, by decide +kernel⟩ ⟨Nat.le_of_ble_eq_true rfl, Nat.le_of_ble_eq_true rfl⟩ ⟨by first | exact Nat.le_of_ble_eq_true rfl | (simp only [rm_X1_setLevels_a, rm_X1_needLevels_f]; omega), by first | exact Nat.le_of_ble_eq_true rfl | (simp only [rm_X1_setLevels_a, rm_X1_needLevels_f]; omega)⟩ dX1_setLevels_1 (Nat.le_of_ble_eq_true rfl) rfl rfl) (fun _ H1_ hk_ hp_ hd_ => fr_sel (ws := [oC h ad sn hsh]) (wc := []) (ws' := [oC h ad sn hsh]) [] [(false, 0)] rfl rfl (by decide) hP hD hk_ hF_1 hp_ hd_) (fun ce9 q9 u_1 H locs h_1 hP hD hS hce9 hcv9 hcl9 => ?_)
  have hP : va_P G.1 vwCl [oC h ad sn hsh] _ := hP
  have hD : va_D A [oC h ad sn hsh] := hD
  rw [hQQ]
  exact rt_x hexT hlk (()) hP hD hS hce9 hcv9 hcl9 (by first | exact Nat.le_of_ble_eq_true rfl | (simp only [rm_X1_setLevels_a, rm_X1_needLevels_f]; omega) | omega) (by first | exact Nat.le_of_ble_eq_true rfl | (simp only [rm_X1_setLevels_a, rm_X1_needLevels_f]; omega) | omega) trivial
def rm_X1_codeLengthWith_a : Room := ({ frames := 11, cells := 1, slots := 6, locals := 180 } : Room)
set_option maxHeartbeats 400000 in
set_option maxRecDepth 100000 in
theorem t_X1_codeLengthWith_a (l : Launch) (G : GG) (b0 sz : Nat) (h : Nat) (ad : Nat → Nat) (sn : Value) (hsh : Int64) (t : Int32) (htr : l.stackTraces = false) (htt : inB t (nI 1) (nI 3) = false) : CTX l yX1_codeLengthWith cX1_codeLengthWith 2 (some FieldType.int) (rm_X1_codeLengthWith_a) G b0 [.ref h, .int t] [oC h ad sn hsh] sz "java/lang/IllegalArgumentException" (fun (_ : Unit) => True) (fun (_ : Unit) => [oC h ad sn hsh]) := by
  refine CTX.go (by decide) (Nat.le_of_ble_eq_true rfl) (fun p e s m below meth c A ls AR QQ hx hb hr hlk hml hown hnm hts hE hA hAb hsz hP hD hS hl hexT hQQ => ?_)
  have hK := hE.1
  have hown : s.vm.findClass RX1 = some m.cls := hown
  have hl : lv_has ls 2 [(0, .ref h), (1, .int t)] := hl
  clear hsz
  refine lv_iload_n hx hb dX1_codeLengthWith_0 rfl (lv_at hl 1 rfl) ?_
  have hF_1 := fr_free (wc := []) [] rfl hA hS hD
  refine fin_x (ws' := (fun (_ : Unit) => [oC h ad sn hsh])) hS hF_1 (run_SX (As := [.int t]) (rest := []) (n9 := 1) hx hb hml hown hts hE hAb hl.1 hS hP hD [] rfl (by decide) (t_X1_needLevels_f l G b0 _ t (by omega) (by omega)) (lw_S q1441 q1442 q106 q1443) ⟨by decide, by decide, by decide +kernel⟩ ⟨Nat.le_of_ble_eq_true rfl, Nat.le_of_ble_eq_true rfl⟩ ⟨by first | exact Nat.le_of_ble_eq_true rfl | (simp only [rm_X1_codeLengthWith_a, rm_X1_needLevels_f]; omega), by first | exact Nat.le_of_ble_eq_true rfl | (simp only [rm_X1_codeLengthWith_a, rm_X1_needLevels_f]; omega)⟩ dX1_codeLengthWith_1 (Nat.le_of_ble_eq_true rfl) rfl rfl) (fun _ H1_ hk_ hp_ hd_ => fr_sel (ws := [oC h ad sn hsh]) (wc := []) (ws' := [oC h ad sn hsh]) [] [(false, 0)] rfl rfl (by decide) hP hD hk_ hF_1 hp_ hd_) (fun ce9 q9 u_1 H locs h_1 hP hD hS hce9 hcv9 hcl9 => ?_)
  have hP : va_P G.1 vwCl [oC h ad sn hsh] _ := hP
  have hD : va_D A [oC h ad sn hsh] := hD
  rw [hQQ]
  exact rt_x hexT hlk (()) hP hD hS hce9 hcv9 hcl9 (by first | exact Nat.le_of_ble_eq_true rfl | (simp only [rm_X1_codeLengthWith_a, rm_X1_needLevels_f]; omega) | omega) (by first | exact Nat.le_of_ble_eq_true rfl | (simp only [rm_X1_codeLengthWith_a, rm_X1_needLevels_f]; omega) | omega) trivial
def rm_X1_energy_a : Room := ({ frames := 10, cells := 1, slots := 6, locals := 160 } : Room)
set_option maxHeartbeats 400000 in
set_option maxRecDepth 100000 in
theorem t_X1_energy_a (l : Launch) (G : GG) (b0 sz : Nat) (h : Nat) (ad : Nat → Nat) (sn : Value) (hsh : Int64) (t : Int32) (htr : l.stackTraces = false) (htt : inB t (nI 0) (nI 9) = false) : CTX l yX1_energy cX1_energy 2 (some FieldType.int) (rm_X1_energy_a) G b0 [.ref h, .int t] [oC h ad sn hsh] sz "java/lang/IllegalArgumentException" (fun (_ : Unit) => True) (fun (_ : Unit) => [oC h ad sn hsh]) := by
  refine CTX.go (by decide) (Nat.le_of_ble_eq_true rfl) (fun p e s m below meth c A ls AR QQ hx hb hr hlk hml hown hnm hts hE hA hAb hsz hP hD hS hl hexT hQQ => ?_)
  have hK := hE.1
  have hown : s.vm.findClass RX1 = some m.cls := hown
  have hl : lv_has ls 2 [(0, .ref h), (1, .int t)] := hl
  clear hsz
  refine lv_iload_n hx hb dX1_energy_0 rfl (lv_at hl 1 rfl) ?_
  refine lv_iconst (v := nI 0) hx hb dX1_energy_1 (by decide) ?_
  refine lv_bipush (v := nI 9) hx hb dX1_energy_2 (by decide) ?_
  refine fin_i (ws' := (fun (_ : Unit) => [oC h ad sn hsh])) hA hS hP hD [] rfl [(false, 0)] (fun _ => rfl) (by decide) (run_S (As := [.int t, .int (nI 0), .int (nI 9)]) (rest := []) (n9 := 3) hx hb hml hown hts hE hAb hl.1 hS hP hD [] rfl (by decide) (t_X1_in l G b0 _ t (nI 0) (nI 9) ) (lw_S q1363 q1019 q106 q1020) ⟨by decide, by decide, by decide +kernel⟩ ⟨Nat.le_of_ble_eq_true rfl, Nat.le_of_ble_eq_true rfl⟩ ⟨by first | exact Nat.le_of_ble_eq_true rfl | (simp only [rm_X1_energy_a, rm_X1_in]; omega), by first | exact Nat.le_of_ble_eq_true rfl | (simp only [rm_X1_energy_a, rm_X1_in]; omega)⟩ dX1_energy_4 (Nat.le_of_ble_eq_true rfl) rfl rfl) (fun r_1 u_1 H locs h_1 hP hD hS => ?_)
  have hP : va_P G.1 vwCl [oC h ad sn hsh] _ := hP
  have hD : va_D A [oC h ad sn hsh] := hD
  have h_1 : r_1 = (bI (inB t (nI 0) (nI 9))) := h_1
  rw [h_1]
  refine W.eq (g2 := F0 m 7 ls [.int (bI false)]) (by rw [htt]) ?_
  have hF_2 := fr_free (wc := []) [] rfl hA hS hD
  refine fin_x (ws' := (fun (_ : Unit) => [oC h ad sn hsh])) hS hF_2 (run_SX (As := [.int (bI false)]) (rest := []) (n9 := 1) hx hb hml hown hts hE hAb hl.1 hS hP hD [] rfl (by decide) (t_X1_need_f l G b0 _  (by omega)) (lw_S q1375 q1376 q106 q1377) ⟨by decide, by decide, by decide +kernel⟩ ⟨Nat.le_of_ble_eq_true rfl, Nat.le_of_ble_eq_true rfl⟩ ⟨by first | exact Nat.le_of_ble_eq_true rfl | (simp only [rm_X1_energy_a, rm_X1_need_f, rm_X1_in]; omega), by first | exact Nat.le_of_ble_eq_true rfl | (simp only [rm_X1_energy_a, rm_X1_need_f, rm_X1_in]; omega)⟩ dX1_energy_7 (Nat.le_of_ble_eq_true rfl) rfl rfl) (fun _ H1_ hk_ hp_ hd_ => fr_sel (ws := [oC h ad sn hsh]) (wc := []) (ws' := [oC h ad sn hsh]) [] [(false, 0)] rfl rfl (by decide) hP hD hk_ hF_2 hp_ hd_) (fun ce9 q9 u_2 H locs h_2 hP hD hS hce9 hcv9 hcl9 => ?_)
  have hP : va_P G.1 vwCl [oC h ad sn hsh] _ := hP
  have hD : va_D A [oC h ad sn hsh] := hD
  rw [hQQ]
  exact rt_x hexT hlk (()) hP hD hS hce9 hcv9 hcl9 (by first | exact Nat.le_of_ble_eq_true rfl | (simp only [rm_X1_energy_a, rm_X1_in, rm_X1_need_f]; omega) | omega) (by first | exact Nat.le_of_ble_eq_true rfl | (simp only [rm_X1_energy_a, rm_X1_in, rm_X1_need_f]; omega) | omega) trivial
def rm_X1_thresholdFor_a : Room := ({ frames := 10, cells := 1, slots := 6, locals := 160 } : Room)
set_option maxHeartbeats 400000 in
set_option maxRecDepth 100000 in
theorem t_X1_thresholdFor_a (l : Launch) (G : GG) (b0 sz : Nat) (h : Nat) (ad : Nat → Nat) (sn : Value) (hsh : Int64) (t : Int32) (htr : l.stackTraces = false) (htt : inB t (nI 0) (nI 16320) = false) : CTX l yX1_thresholdFor cX1_thresholdFor 2 (some FieldType.int) (rm_X1_thresholdFor_a) G b0 [.ref h, .int t] [oC h ad sn hsh] sz "java/lang/IllegalArgumentException" (fun (_ : Unit) => True) (fun (_ : Unit) => [oC h ad sn hsh]) := by
  refine CTX.go (by decide) (Nat.le_of_ble_eq_true rfl) (fun p e s m below meth c A ls AR QQ hx hb hr hlk hml hown hnm hts hE hA hAb hsz hP hD hS hl hexT hQQ => ?_)
  have hK := hE.1
  have hown : s.vm.findClass RX1 = some m.cls := hown
  have hl : lv_has ls 2 [(0, .ref h), (1, .int t)] := hl
  clear hsz
  refine lv_iload_n hx hb dX1_thresholdFor_0 rfl (lv_at hl 1 rfl) ?_
  refine lv_iconst (v := nI 0) hx hb dX1_thresholdFor_1 (by decide) ?_
  refine lv_sipush (v := nI 16320) hx hb dX1_thresholdFor_2 (by decide) ?_
  refine fin_i (ws' := (fun (_ : Unit) => [oC h ad sn hsh])) hA hS hP hD [] rfl [(false, 0)] (fun _ => rfl) (by decide) (run_S (As := [.int t, .int (nI 0), .int (nI 16320)]) (rest := []) (n9 := 3) hx hb hml hown hts hE hAb hl.1 hS hP hD [] rfl (by decide) (t_X1_in l G b0 _ t (nI 0) (nI 16320) ) (lw_S q1363 q1019 q106 q1020) ⟨by decide, by decide, by decide +kernel⟩ ⟨Nat.le_of_ble_eq_true rfl, Nat.le_of_ble_eq_true rfl⟩ ⟨by first | exact Nat.le_of_ble_eq_true rfl | (simp only [rm_X1_thresholdFor_a, rm_X1_in]; omega), by first | exact Nat.le_of_ble_eq_true rfl | (simp only [rm_X1_thresholdFor_a, rm_X1_in]; omega)⟩ dX1_thresholdFor_5 (Nat.le_of_ble_eq_true rfl) rfl rfl) (fun r_1 u_1 H locs h_1 hP hD hS => ?_)
  have hP : va_P G.1 vwCl [oC h ad sn hsh] _ := hP
  have hD : va_D A [oC h ad sn hsh] := hD
  have h_1 : r_1 = (bI (inB t (nI 0) (nI 16320))) := h_1
  rw [h_1]
  refine W.eq (g2 := F0 m 8 ls [.int (bI false)]) (by rw [htt]) ?_
  have hF_2 := fr_free (wc := []) [] rfl hA hS hD
  refine fin_x (ws' := (fun (_ : Unit) => [oC h ad sn hsh])) hS hF_2 (run_SX (As := [.int (bI false)]) (rest := []) (n9 := 1) hx hb hml hown hts hE hAb hl.1 hS hP hD [] rfl (by decide) (t_X1_need_f l G b0 _  (by omega)) (lw_S q1375 q1376 q106 q1377) ⟨by decide, by decide, by decide +kernel⟩ ⟨Nat.le_of_ble_eq_true rfl, Nat.le_of_ble_eq_true rfl⟩ ⟨by first | exact Nat.le_of_ble_eq_true rfl | (simp only [rm_X1_thresholdFor_a, rm_X1_need_f, rm_X1_in]; omega), by first | exact Nat.le_of_ble_eq_true rfl | (simp only [rm_X1_thresholdFor_a, rm_X1_need_f, rm_X1_in]; omega)⟩ dX1_thresholdFor_8 (Nat.le_of_ble_eq_true rfl) rfl rfl) (fun _ H1_ hk_ hp_ hd_ => fr_sel (ws := [oC h ad sn hsh]) (wc := []) (ws' := [oC h ad sn hsh]) [] [(false, 0)] rfl rfl (by decide) hP hD hk_ hF_2 hp_ hd_) (fun ce9 q9 u_2 H locs h_2 hP hD hS hce9 hcv9 hcl9 => ?_)
  have hP : va_P G.1 vwCl [oC h ad sn hsh] _ := hP
  have hD : va_D A [oC h ad sn hsh] := hD
  rw [hQQ]
  exact rt_x hexT hlk (()) hP hD hS hce9 hcv9 hcl9 (by first | exact Nat.le_of_ble_eq_true rfl | (simp only [rm_X1_thresholdFor_a, rm_X1_in, rm_X1_need_f]; omega) | omega) (by first | exact Nat.le_of_ble_eq_true rfl | (simp only [rm_X1_thresholdFor_a, rm_X1_in, rm_X1_need_f]; omega) | omega) trivial
def rm_X1_costOfPlanes_a : Room := ({ frames := 10, cells := 1, slots := 6, locals := 160 } : Room)
set_option maxHeartbeats 400000 in
set_option maxRecDepth 100000 in
theorem t_X1_costOfPlanes_a (l : Launch) (G : GG) (b0 sz : Nat) (h : Nat) (ad : Nat → Nat) (sn : Value) (hsh : Int64) (t : Int32) (htr : l.stackTraces = false) (htt : inB t (nI 0) (nI 7) = false) : CTX l yX1_costOfPlanes cX1_costOfPlanes 2 (some FieldType.int) (rm_X1_costOfPlanes_a) G b0 [.ref h, .int t] [oC h ad sn hsh] sz "java/lang/IllegalArgumentException" (fun (_ : Unit) => True) (fun (_ : Unit) => [oC h ad sn hsh]) := by
  refine CTX.go (by decide) (Nat.le_of_ble_eq_true rfl) (fun p e s m below meth c A ls AR QQ hx hb hr hlk hml hown hnm hts hE hA hAb hsz hP hD hS hl hexT hQQ => ?_)
  have hK := hE.1
  have hown : s.vm.findClass RX1 = some m.cls := hown
  have hl : lv_has ls 2 [(0, .ref h), (1, .int t)] := hl
  clear hsz
  refine lv_iload_n hx hb dX1_costOfPlanes_0 rfl (lv_at hl 1 rfl) ?_
  refine lv_iconst (v := nI 0) hx hb dX1_costOfPlanes_1 (by decide) ?_
  refine lv_bipush (v := nI 7) hx hb dX1_costOfPlanes_2 (by decide) ?_
  refine fin_i (ws' := (fun (_ : Unit) => [oC h ad sn hsh])) hA hS hP hD [] rfl [(false, 0)] (fun _ => rfl) (by decide) (run_S (As := [.int t, .int (nI 0), .int (nI 7)]) (rest := []) (n9 := 3) hx hb hml hown hts hE hAb hl.1 hS hP hD [] rfl (by decide) (t_X1_in l G b0 _ t (nI 0) (nI 7) ) (lw_S q1363 q1019 q106 q1020) ⟨by decide, by decide, by decide +kernel⟩ ⟨Nat.le_of_ble_eq_true rfl, Nat.le_of_ble_eq_true rfl⟩ ⟨by first | exact Nat.le_of_ble_eq_true rfl | (simp only [rm_X1_costOfPlanes_a, rm_X1_in]; omega), by first | exact Nat.le_of_ble_eq_true rfl | (simp only [rm_X1_costOfPlanes_a, rm_X1_in]; omega)⟩ dX1_costOfPlanes_4 (Nat.le_of_ble_eq_true rfl) rfl rfl) (fun r_1 u_1 H locs h_1 hP hD hS => ?_)
  have hP : va_P G.1 vwCl [oC h ad sn hsh] _ := hP
  have hD : va_D A [oC h ad sn hsh] := hD
  have h_1 : r_1 = (bI (inB t (nI 0) (nI 7))) := h_1
  rw [h_1]
  refine W.eq (g2 := F0 m 7 ls [.int (bI false)]) (by rw [htt]) ?_
  have hF_2 := fr_free (wc := []) [] rfl hA hS hD
  refine fin_x (ws' := (fun (_ : Unit) => [oC h ad sn hsh])) hS hF_2 (run_SX (As := [.int (bI false)]) (rest := []) (n9 := 1) hx hb hml hown hts hE hAb hl.1 hS hP hD [] rfl (by decide) (t_X1_need_f l G b0 _  (by omega)) (lw_S q1375 q1376 q106 q1377) ⟨by decide, by decide, by decide +kernel⟩ ⟨Nat.le_of_ble_eq_true rfl, Nat.le_of_ble_eq_true rfl⟩ ⟨by first | exact Nat.le_of_ble_eq_true rfl | (simp only [rm_X1_costOfPlanes_a, rm_X1_need_f, rm_X1_in]; omega), by first | exact Nat.le_of_ble_eq_true rfl | (simp only [rm_X1_costOfPlanes_a, rm_X1_need_f, rm_X1_in]; omega)⟩ dX1_costOfPlanes_7 (Nat.le_of_ble_eq_true rfl) rfl rfl) (fun _ H1_ hk_ hp_ hd_ => fr_sel (ws := [oC h ad sn hsh]) (wc := []) (ws' := [oC h ad sn hsh]) [] [(false, 0)] rfl rfl (by decide) hP hD hk_ hF_2 hp_ hd_) (fun ce9 q9 u_2 H locs h_2 hP hD hS hce9 hcv9 hcl9 => ?_)
  have hP : va_P G.1 vwCl [oC h ad sn hsh] _ := hP
  have hD : va_D A [oC h ad sn hsh] := hD
  rw [hQQ]
  exact rt_x hexT hlk (()) hP hD hS hce9 hcv9 hcl9 (by first | exact Nat.le_of_ble_eq_true rfl | (simp only [rm_X1_costOfPlanes_a, rm_X1_in, rm_X1_need_f]; omega) | omega) (by first | exact Nat.le_of_ble_eq_true rfl | (simp only [rm_X1_costOfPlanes_a, rm_X1_in, rm_X1_need_f]; omega) | omega) trivial
def rm_X1_partByCode_i : Room := ({ frames := 10, cells := 1, slots := 6, locals := 160 } : Room)
set_option maxHeartbeats 400000 in
set_option maxRecDepth 100000 in
theorem t_X1_partByCode_i (l : Launch) (G : GG) (b0 sz : Nat) (h : Nat) (ad : Nat → Nat) (sn : Value) (hsh : Int64) (t : Int32) (htr : l.stackTraces = false) (htt : inB t (nI 0) (nI 63) = false) : CTX l yX1_partByCode cX1_partByCode 2 (some FieldType.int) (rm_X1_partByCode_i) G b0 [.ref h, .int t] [oC h ad sn hsh] sz "java/lang/IndexOutOfBoundsException" (fun (_ : Unit) => True) (fun (_ : Unit) => [oC h ad sn hsh]) := by
  refine CTX.go (by decide) (Nat.le_of_ble_eq_true rfl) (fun p e s m below meth c A ls AR QQ hx hb hr hlk hml hown hnm hts hE hA hAb hsz hP hD hS hl hexT hQQ => ?_)
  have hK := hE.1
  have hown : s.vm.findClass RX1 = some m.cls := hown
  have hl : lv_has ls 2 [(0, .ref h), (1, .int t)] := hl
  clear hsz
  refine lv_iload_n hx hb dX1_partByCode_0 rfl (lv_at hl 1 rfl) ?_
  refine lv_iconst (v := nI 0) hx hb dX1_partByCode_1 (by decide) ?_
  refine lv_bipush (v := nI 63) hx hb dX1_partByCode_2 (by decide) ?_
  refine fin_i (ws' := (fun (_ : Unit) => [oC h ad sn hsh])) hA hS hP hD [] rfl [(false, 0)] (fun _ => rfl) (by decide) (run_S (As := [.int t, .int (nI 0), .int (nI 63)]) (rest := []) (n9 := 3) hx hb hml hown hts hE hAb hl.1 hS hP hD [] rfl (by decide) (t_X1_in l G b0 _ t (nI 0) (nI 63) ) (lw_S q1363 q1019 q106 q1020) ⟨by decide, by decide, by decide +kernel⟩ ⟨Nat.le_of_ble_eq_true rfl, Nat.le_of_ble_eq_true rfl⟩ ⟨by first | exact Nat.le_of_ble_eq_true rfl | (simp only [rm_X1_partByCode_i, rm_X1_in]; omega), by first | exact Nat.le_of_ble_eq_true rfl | (simp only [rm_X1_partByCode_i, rm_X1_in]; omega)⟩ dX1_partByCode_4 (Nat.le_of_ble_eq_true rfl) rfl rfl) (fun r_1 u_1 H locs h_1 hP hD hS => ?_)
  have hP : va_P G.1 vwCl [oC h ad sn hsh] _ := hP
  have hD : va_D A [oC h ad sn hsh] := hD
  have h_1 : r_1 = (bI (inB t (nI 0) (nI 63))) := h_1
  rw [h_1]
  refine W.eq (g2 := F0 m 7 ls [.int (bI false)]) (by rw [htt]) ?_
  have hF_2 := fr_free (wc := []) [] rfl hA hS hD
  refine fin_x (ws' := (fun (_ : Unit) => [oC h ad sn hsh])) hS hF_2 (run_SX (As := [.int (bI false)]) (rest := []) (n9 := 1) hx hb hml hown hts hE hAb hl.1 hS hP hD [] rfl (by decide) (t_X1_needIndex_f l G b0 _  (by omega)) (lw_S q1364 q1365 q106 q1366) ⟨by decide, by decide, by decide +kernel⟩ ⟨Nat.le_of_ble_eq_true rfl, Nat.le_of_ble_eq_true rfl⟩ ⟨by first | exact Nat.le_of_ble_eq_true rfl | (simp only [rm_X1_partByCode_i, rm_X1_needIndex_f, rm_X1_in]; omega), by first | exact Nat.le_of_ble_eq_true rfl | (simp only [rm_X1_partByCode_i, rm_X1_needIndex_f, rm_X1_in]; omega)⟩ dX1_partByCode_7 (Nat.le_of_ble_eq_true rfl) rfl rfl) (fun _ H1_ hk_ hp_ hd_ => fr_sel (ws := [oC h ad sn hsh]) (wc := []) (ws' := [oC h ad sn hsh]) [] [(false, 0)] rfl rfl (by decide) hP hD hk_ hF_2 hp_ hd_) (fun ce9 q9 u_2 H locs h_2 hP hD hS hce9 hcv9 hcl9 => ?_)
  have hP : va_P G.1 vwCl [oC h ad sn hsh] _ := hP
  have hD : va_D A [oC h ad sn hsh] := hD
  rw [hQQ]
  exact rt_x hexT hlk (()) hP hD hS hce9 hcv9 hcl9 (by first | exact Nat.le_of_ble_eq_true rfl | (simp only [rm_X1_partByCode_i, rm_X1_in, rm_X1_needIndex_f]; omega) | omega) (by first | exact Nat.le_of_ble_eq_true rfl | (simp only [rm_X1_partByCode_i, rm_X1_in, rm_X1_needIndex_f]; omega) | omega) trivial
def rm_X1_fillRow_i : Room := ({ frames := 10, cells := 1, slots := 6, locals := 160 } : Room)
set_option maxHeartbeats 400000 in
set_option maxRecDepth 100000 in
theorem t_X1_fillRow_i (l : Launch) (G : GG) (b0 sz : Nat) (h : Nat) (ad : Nat → Nat) (sn : Value) (hsh : Int64) (r t b : Int32) (htr : l.stackTraces = false) (hri : inB r (nI 0) (nI 7) = false) : CTX l yX1_fillRow cX1_fillRow 4 (some FieldType.int) (rm_X1_fillRow_i) G b0 [.ref h, .int r, .int t, .int b] [oC h ad sn hsh] sz "java/lang/IndexOutOfBoundsException" (fun (_ : Unit) => True) (fun (_ : Unit) => [oC h ad sn hsh]) := by
  refine CTX.go (by decide) (Nat.le_of_ble_eq_true rfl) (fun p e s m below meth c A ls AR QQ hx hb hr hlk hml hown hnm hts hE hA hAb hsz hP hD hS hl hexT hQQ => ?_)
  have hK := hE.1
  have hown : s.vm.findClass RX1 = some m.cls := hown
  have hl : lv_has ls 4 [(0, .ref h), (1, .int r), (2, .int t), (3, .int b)] := hl
  clear hsz
  refine lv_iload_n hx hb dX1_fillRow_0 rfl (lv_at hl 1 rfl) ?_
  refine lv_iconst (v := nI 0) hx hb dX1_fillRow_1 (by decide) ?_
  refine lv_bipush (v := nI 7) hx hb dX1_fillRow_2 (by decide) ?_
  refine fin_i (ws' := (fun (_ : Unit) => [oC h ad sn hsh])) hA hS hP hD [] rfl [(false, 0)] (fun _ => rfl) (by decide) (run_S (As := [.int r, .int (nI 0), .int (nI 7)]) (rest := []) (n9 := 3) hx hb hml hown hts hE hAb hl.1 hS hP hD [] rfl (by decide) (t_X1_in l G b0 _ r (nI 0) (nI 7) ) (lw_S q1363 q1019 q106 q1020) ⟨by decide, by decide, by decide +kernel⟩ ⟨Nat.le_of_ble_eq_true rfl, Nat.le_of_ble_eq_true rfl⟩ ⟨by first | exact Nat.le_of_ble_eq_true rfl | (simp only [rm_X1_fillRow_i, rm_X1_in]; omega), by first | exact Nat.le_of_ble_eq_true rfl | (simp only [rm_X1_fillRow_i, rm_X1_in]; omega)⟩ dX1_fillRow_4 (Nat.le_of_ble_eq_true rfl) rfl rfl) (fun r_1 u_1 H locs h_1 hP hD hS => ?_)
  have hP : va_P G.1 vwCl [oC h ad sn hsh] _ := hP
  have hD : va_D A [oC h ad sn hsh] := hD
  have h_1 : r_1 = (bI (inB r (nI 0) (nI 7))) := h_1
  rw [h_1]
  refine W.eq (g2 := F0 m 7 ls [.int (bI false)]) (by rw [hri]) ?_
  have hF_2 := fr_free (wc := []) [] rfl hA hS hD
  refine fin_x (ws' := (fun (_ : Unit) => [oC h ad sn hsh])) hS hF_2 (run_SX (As := [.int (bI false)]) (rest := []) (n9 := 1) hx hb hml hown hts hE hAb hl.1 hS hP hD [] rfl (by decide) (t_X1_needIndex_f l G b0 _  (by omega)) (lw_S q1364 q1365 q106 q1366) ⟨by decide, by decide, by decide +kernel⟩ ⟨Nat.le_of_ble_eq_true rfl, Nat.le_of_ble_eq_true rfl⟩ ⟨by first | exact Nat.le_of_ble_eq_true rfl | (simp only [rm_X1_fillRow_i, rm_X1_needIndex_f, rm_X1_in]; omega), by first | exact Nat.le_of_ble_eq_true rfl | (simp only [rm_X1_fillRow_i, rm_X1_needIndex_f, rm_X1_in]; omega)⟩ dX1_fillRow_7 (Nat.le_of_ble_eq_true rfl) rfl rfl) (fun _ H1_ hk_ hp_ hd_ => fr_sel (ws := [oC h ad sn hsh]) (wc := []) (ws' := [oC h ad sn hsh]) [] [(false, 0)] rfl rfl (by decide) hP hD hk_ hF_2 hp_ hd_) (fun ce9 q9 u_2 H locs h_2 hP hD hS hce9 hcv9 hcl9 => ?_)
  have hP : va_P G.1 vwCl [oC h ad sn hsh] _ := hP
  have hD : va_D A [oC h ad sn hsh] := hD
  rw [hQQ]
  exact rt_x hexT hlk (()) hP hD hS hce9 hcv9 hcl9 (by first | exact Nat.le_of_ble_eq_true rfl | (simp only [rm_X1_fillRow_i, rm_X1_in, rm_X1_needIndex_f]; omega) | omega) (by first | exact Nat.le_of_ble_eq_true rfl | (simp only [rm_X1_fillRow_i, rm_X1_in, rm_X1_needIndex_f]; omega) | omega) trivial
def rm_X1_fillRow_a1 : Room := ({ frames := 10, cells := 1, slots := 6, locals := 160 } : Room)
set_option maxHeartbeats 400000 in
set_option maxRecDepth 100000 in
theorem t_X1_fillRow_a1 (l : Launch) (G : GG) (b0 sz : Nat) (h : Nat) (ad : Nat → Nat) (sn : Value) (hsh : Int64) (r t b : Int32) (htr : l.stackTraces = false) (hri : inB r (nI 0) (nI 7) = true) (htt : isSh t = false) : CTX l yX1_fillRow cX1_fillRow 4 (some FieldType.int) (rm_X1_fillRow_a1) G b0 [.ref h, .int r, .int t, .int b] [oC h ad sn hsh] sz "java/lang/IllegalArgumentException" (fun (_ : Unit) => True) (fun (_ : Unit) => [oC h ad sn hsh]) := by
  refine CTX.go (by decide) (Nat.le_of_ble_eq_true rfl) (fun p e s m below meth c A ls AR QQ hx hb hr hlk hml hown hnm hts hE hA hAb hsz hP hD hS hl hexT hQQ => ?_)
  have hK := hE.1
  have hown : s.vm.findClass RX1 = some m.cls := hown
  have hl : lv_has ls 4 [(0, .ref h), (1, .int r), (2, .int t), (3, .int b)] := hl
  clear hsz
  refine lv_iload_n hx hb dX1_fillRow_0 rfl (lv_at hl 1 rfl) ?_
  refine lv_iconst (v := nI 0) hx hb dX1_fillRow_1 (by decide) ?_
  refine lv_bipush (v := nI 7) hx hb dX1_fillRow_2 (by decide) ?_
  refine fin_i (ws' := (fun (_ : Unit) => [oC h ad sn hsh])) hA hS hP hD [] rfl [(false, 0)] (fun _ => rfl) (by decide) (run_S (As := [.int r, .int (nI 0), .int (nI 7)]) (rest := []) (n9 := 3) hx hb hml hown hts hE hAb hl.1 hS hP hD [] rfl (by decide) (t_X1_in l G b0 _ r (nI 0) (nI 7) ) (lw_S q1363 q1019 q106 q1020) ⟨by decide, by decide, by decide +kernel⟩ ⟨Nat.le_of_ble_eq_true rfl, Nat.le_of_ble_eq_true rfl⟩ ⟨by first | exact Nat.le_of_ble_eq_true rfl | (simp only [rm_X1_fillRow_a1, rm_X1_in]; omega), by first | exact Nat.le_of_ble_eq_true rfl | (simp only [rm_X1_fillRow_a1, rm_X1_in]; omega)⟩ dX1_fillRow_4 (Nat.le_of_ble_eq_true rfl) rfl rfl) (fun r_1 u_1 H locs h_1 hP hD hS => ?_)
  have hP : va_P G.1 vwCl [oC h ad sn hsh] _ := hP
  have hD : va_D A [oC h ad sn hsh] := hD
  have h_1 : r_1 = (bI (inB r (nI 0) (nI 7))) := h_1
  rw [h_1]
  refine W.eq (g2 := F0 m 7 ls [.int (bI true)]) (by rw [hri]) ?_
  refine fin_v (ws' := (fun (_ : Unit) => [oC h ad sn hsh])) hA hS hP hD [] rfl [(false, 0)] (fun _ => rfl) (by decide) (run_S (As := [.int (bI true)]) (rest := []) (n9 := 1) hx hb hml hown hts hE hAb hl.1 hS hP hD [] rfl (by decide) (t_X1_needIndex_t l G b0 _  ) (lw_S q1364 q1365 q106 q1366) ⟨by decide, by decide, by decide +kernel⟩ ⟨Nat.le_of_ble_eq_true rfl, Nat.le_of_ble_eq_true rfl⟩ ⟨by first | exact Nat.le_of_ble_eq_true rfl | (simp only [rm_X1_fillRow_a1, rm_X1_needIndex_t, rm_X1_in]; omega), by first | exact Nat.le_of_ble_eq_true rfl | (simp only [rm_X1_fillRow_a1, rm_X1_needIndex_t, rm_X1_in]; omega)⟩ dX1_fillRow_7 (Nat.le_of_ble_eq_true rfl) rfl rfl) (fun u_2 H locs h_2 hP hD hS => ?_)
  have hP : va_P G.1 vwCl [oC h ad sn hsh] _ := hP
  have hD : va_D A [oC h ad sn hsh] := hD
  refine lv_iload_n hx hb dX1_fillRow_10 rfl (lv_at hl 2 rfl) ?_
  refine lv_iconst (v := nI 0) hx hb dX1_fillRow_11 (by decide) ?_
  refine lv_sipush (v := nI 255) hx hb dX1_fillRow_12 (by decide) ?_
  refine fin_i (ws' := (fun (_ : Unit) => [oC h ad sn hsh])) hA hS hP hD [] rfl [(false, 0)] (fun _ => rfl) (by decide) (run_S (As := [.int t, .int (nI 0), .int (nI 255)]) (rest := []) (n9 := 3) hx hb hml hown hts hE hAb hl.1 hS hP hD [] rfl (by decide) (t_X1_in l G b0 _ t (nI 0) (nI 255) ) (lw_S q1363 q1019 q106 q1020) ⟨by decide, by decide, by decide +kernel⟩ ⟨Nat.le_of_ble_eq_true rfl, Nat.le_of_ble_eq_true rfl⟩ ⟨by first | exact Nat.le_of_ble_eq_true rfl | (simp only [rm_X1_fillRow_a1, rm_X1_in, rm_X1_needIndex_t]; omega), by first | exact Nat.le_of_ble_eq_true rfl | (simp only [rm_X1_fillRow_a1, rm_X1_in, rm_X1_needIndex_t]; omega)⟩ dX1_fillRow_15 (Nat.le_of_ble_eq_true rfl) rfl rfl) (fun r_3 u_3 H locs h_3 hP hD hS => ?_)
  have hP : va_P G.1 vwCl [oC h ad sn hsh] _ := hP
  have hD : va_D A [oC h ad sn hsh] := hD
  have h_3 : r_3 = (bI (inB t (nI 0) (nI 255))) := h_3
  rw [h_3]
  refine B_if_eq (tgt := 36) hx hb dX1_fillRow_18 (by decide) (fun c_18 => ?_) (fun c_18 => ?_)
  · skip
    refine lv_iconst (v := nI 0) hx hb dX1_fillRow_36 (by decide) ?_
    refine W.eq (g2 := F0 m 37 ls [.int (bI false)]) rfl ?_
    have hF_4 := fr_free (wc := []) [] rfl hA hS hD
    refine fin_x (ws' := (fun (_ : Unit) => [oC h ad sn hsh])) hS hF_4 (run_SX (As := [.int (bI false)]) (rest := []) (n9 := 1) hx hb hml hown hts hE hAb hl.1 hS hP hD [] rfl (by decide) (t_X1_need_f l G b0 _  (by omega)) (lw_S q1375 q1376 q106 q1377) ⟨by decide, by decide, by decide +kernel⟩ ⟨Nat.le_of_ble_eq_true rfl, Nat.le_of_ble_eq_true rfl⟩ ⟨by first | exact Nat.le_of_ble_eq_true rfl | (simp only [rm_X1_fillRow_a1, rm_X1_need_f, rm_X1_in, rm_X1_needIndex_t]; omega), by first | exact Nat.le_of_ble_eq_true rfl | (simp only [rm_X1_fillRow_a1, rm_X1_need_f, rm_X1_in, rm_X1_needIndex_t]; omega)⟩ dX1_fillRow_37 (Nat.le_of_ble_eq_true rfl) rfl rfl) (fun _ H1_ hk_ hp_ hd_ => fr_sel (ws := [oC h ad sn hsh]) (wc := []) (ws' := [oC h ad sn hsh]) [] [(false, 0)] rfl rfl (by decide) hP hD hk_ hF_4 hp_ hd_) (fun ce9 q9 u_4 H locs h_4 hP hD hS hce9 hcv9 hcl9 => ?_)
    have hP : va_P G.1 vwCl [oC h ad sn hsh] _ := hP
    have hD : va_D A [oC h ad sn hsh] := hD
    rw [hQQ]
    exact rt_x hexT hlk (()) hP hD hS hce9 hcv9 hcl9 (by first | exact Nat.le_of_ble_eq_true rfl | (simp only [rm_X1_fillRow_a1, rm_X1_in, rm_X1_needIndex_t, rm_X1_need_f]; omega) | omega) (by first | exact Nat.le_of_ble_eq_true rfl | (simp only [rm_X1_fillRow_a1, rm_X1_in, rm_X1_needIndex_t, rm_X1_need_f]; omega) | omega) trivial
  · skip
    exfalso; exact absurd ((show inB t (nI 0) (nI 255) = false from htt).symm.trans c_18) (by decide)
def rm_X1_fillRow_a2 : Room := ({ frames := 10, cells := 1, slots := 6, locals := 160 } : Room)
set_option maxHeartbeats 400000 in
set_option maxRecDepth 100000 in
theorem t_X1_fillRow_a2 (l : Launch) (G : GG) (b0 sz : Nat) (h : Nat) (ad : Nat → Nat) (sn : Value) (hsh : Int64) (r t b : Int32) (htr : l.stackTraces = false) (hri : inB r (nI 0) (nI 7) = true) (htt : isSh t = true) (hby : inB b (-36) (nI 36) = false) : CTX l yX1_fillRow cX1_fillRow 4 (some FieldType.int) (rm_X1_fillRow_a2) G b0 [.ref h, .int r, .int t, .int b] [oC h ad sn hsh] sz "java/lang/IllegalArgumentException" (fun (_ : Unit) => True) (fun (_ : Unit) => [oC h ad sn hsh]) := by
  refine CTX.go (by decide) (Nat.le_of_ble_eq_true rfl) (fun p e s m below meth c A ls AR QQ hx hb hr hlk hml hown hnm hts hE hA hAb hsz hP hD hS hl hexT hQQ => ?_)
  have hK := hE.1
  have hown : s.vm.findClass RX1 = some m.cls := hown
  have hl : lv_has ls 4 [(0, .ref h), (1, .int r), (2, .int t), (3, .int b)] := hl
  clear hsz
  refine lv_iload_n hx hb dX1_fillRow_0 rfl (lv_at hl 1 rfl) ?_
  refine lv_iconst (v := nI 0) hx hb dX1_fillRow_1 (by decide) ?_
  refine lv_bipush (v := nI 7) hx hb dX1_fillRow_2 (by decide) ?_
  refine fin_i (ws' := (fun (_ : Unit) => [oC h ad sn hsh])) hA hS hP hD [] rfl [(false, 0)] (fun _ => rfl) (by decide) (run_S (As := [.int r, .int (nI 0), .int (nI 7)]) (rest := []) (n9 := 3) hx hb hml hown hts hE hAb hl.1 hS hP hD [] rfl (by decide) (t_X1_in l G b0 _ r (nI 0) (nI 7) ) (lw_S q1363 q1019 q106 q1020) ⟨by decide, by decide, by decide +kernel⟩ ⟨Nat.le_of_ble_eq_true rfl, Nat.le_of_ble_eq_true rfl⟩ ⟨by first | exact Nat.le_of_ble_eq_true rfl | (simp only [rm_X1_fillRow_a2, rm_X1_in]; omega), by first | exact Nat.le_of_ble_eq_true rfl | (simp only [rm_X1_fillRow_a2, rm_X1_in]; omega)⟩ dX1_fillRow_4 (Nat.le_of_ble_eq_true rfl) rfl rfl) (fun r_1 u_1 H locs h_1 hP hD hS => ?_)
  have hP : va_P G.1 vwCl [oC h ad sn hsh] _ := hP
  have hD : va_D A [oC h ad sn hsh] := hD
  have h_1 : r_1 = (bI (inB r (nI 0) (nI 7))) := h_1
  rw [h_1]
  refine W.eq (g2 := F0 m 7 ls [.int (bI true)]) (by rw [hri]) ?_
  refine fin_v (ws' := (fun (_ : Unit) => [oC h ad sn hsh])) hA hS hP hD [] rfl [(false, 0)] (fun _ => rfl) (by decide) (run_S (As := [.int (bI true)]) (rest := []) (n9 := 1) hx hb hml hown hts hE hAb hl.1 hS hP hD [] rfl (by decide) (t_X1_needIndex_t l G b0 _  ) (lw_S q1364 q1365 q106 q1366) ⟨by decide, by decide, by decide +kernel⟩ ⟨Nat.le_of_ble_eq_true rfl, Nat.le_of_ble_eq_true rfl⟩ ⟨by first | exact Nat.le_of_ble_eq_true rfl | (simp only [rm_X1_fillRow_a2, rm_X1_needIndex_t, rm_X1_in]; omega), by first | exact Nat.le_of_ble_eq_true rfl | (simp only [rm_X1_fillRow_a2, rm_X1_needIndex_t, rm_X1_in]; omega)⟩ dX1_fillRow_7 (Nat.le_of_ble_eq_true rfl) rfl rfl) (fun u_2 H locs h_2 hP hD hS => ?_)
  have hP : va_P G.1 vwCl [oC h ad sn hsh] _ := hP
  have hD : va_D A [oC h ad sn hsh] := hD
  refine lv_iload_n hx hb dX1_fillRow_10 rfl (lv_at hl 2 rfl) ?_
  refine lv_iconst (v := nI 0) hx hb dX1_fillRow_11 (by decide) ?_
  refine lv_sipush (v := nI 255) hx hb dX1_fillRow_12 (by decide) ?_
  refine fin_i (ws' := (fun (_ : Unit) => [oC h ad sn hsh])) hA hS hP hD [] rfl [(false, 0)] (fun _ => rfl) (by decide) (run_S (As := [.int t, .int (nI 0), .int (nI 255)]) (rest := []) (n9 := 3) hx hb hml hown hts hE hAb hl.1 hS hP hD [] rfl (by decide) (t_X1_in l G b0 _ t (nI 0) (nI 255) ) (lw_S q1363 q1019 q106 q1020) ⟨by decide, by decide, by decide +kernel⟩ ⟨Nat.le_of_ble_eq_true rfl, Nat.le_of_ble_eq_true rfl⟩ ⟨by first | exact Nat.le_of_ble_eq_true rfl | (simp only [rm_X1_fillRow_a2, rm_X1_in, rm_X1_needIndex_t]; omega), by first | exact Nat.le_of_ble_eq_true rfl | (simp only [rm_X1_fillRow_a2, rm_X1_in, rm_X1_needIndex_t]; omega)⟩ dX1_fillRow_15 (Nat.le_of_ble_eq_true rfl) rfl rfl) (fun r_3 u_3 H locs h_3 hP hD hS => ?_)
  have hP : va_P G.1 vwCl [oC h ad sn hsh] _ := hP
  have hD : va_D A [oC h ad sn hsh] := hD
  have h_3 : r_3 = (bI (inB t (nI 0) (nI 255))) := h_3
  rw [h_3]
  refine B_if_eq (tgt := 36) hx hb dX1_fillRow_18 (by decide) (fun c_18 => ?_) (fun c_18 => ?_)
  · skip
    exfalso; exact absurd ((show inB t (nI 0) (nI 255) = true from htt).symm.trans c_18) (by decide)
  · skip
    refine lv_iload_n hx hb dX1_fillRow_21 rfl (lv_at hl 3 rfl) ?_
    refine lv_bipush (v := (-36)) hx hb dX1_fillRow_22 (by decide) ?_
    refine lv_bipush (v := nI 36) hx hb dX1_fillRow_24 (by decide) ?_
    refine fin_i (ws' := (fun (_ : Unit) => [oC h ad sn hsh])) hA hS hP hD [] rfl [(false, 0)] (fun _ => rfl) (by decide) (run_S (As := [.int b, .int ((-36)), .int (nI 36)]) (rest := []) (n9 := 3) hx hb hml hown hts hE hAb hl.1 hS hP hD [] rfl (by decide) (t_X1_in l G b0 _ b ((-36)) (nI 36) ) (lw_S q1363 q1019 q106 q1020) ⟨by decide, by decide, by decide +kernel⟩ ⟨Nat.le_of_ble_eq_true rfl, Nat.le_of_ble_eq_true rfl⟩ ⟨by first | exact Nat.le_of_ble_eq_true rfl | (simp only [rm_X1_fillRow_a2, rm_X1_in, rm_X1_needIndex_t]; omega), by first | exact Nat.le_of_ble_eq_true rfl | (simp only [rm_X1_fillRow_a2, rm_X1_in, rm_X1_needIndex_t]; omega)⟩ dX1_fillRow_26 (Nat.le_of_ble_eq_true rfl) rfl rfl) (fun r_4 u_4 H locs h_4 hP hD hS => ?_)
    have hP : va_P G.1 vwCl [oC h ad sn hsh] _ := hP
    have hD : va_D A [oC h ad sn hsh] := hD
    have h_4 : r_4 = (bI (inB b ((-36)) (nI 36))) := h_4
    rw [h_4]
    refine B_if_eq (tgt := 36) hx hb dX1_fillRow_29 (by decide) (fun c_29 => ?_) (fun c_29 => ?_)
    · skip
      refine lv_iconst (v := nI 0) hx hb dX1_fillRow_36 (by decide) ?_
      refine W.eq (g2 := F0 m 37 ls [.int (bI false)]) rfl ?_
      have hF_5 := fr_free (wc := []) [] rfl hA hS hD
      refine fin_x (ws' := (fun (_ : Unit) => [oC h ad sn hsh])) hS hF_5 (run_SX (As := [.int (bI false)]) (rest := []) (n9 := 1) hx hb hml hown hts hE hAb hl.1 hS hP hD [] rfl (by decide) (t_X1_need_f l G b0 _  (by omega)) (lw_S q1375 q1376 q106 q1377) ⟨by decide, by decide, by decide +kernel⟩ ⟨Nat.le_of_ble_eq_true rfl, Nat.le_of_ble_eq_true rfl⟩ ⟨by first | exact Nat.le_of_ble_eq_true rfl | (simp only [rm_X1_fillRow_a2, rm_X1_need_f, rm_X1_in, rm_X1_needIndex_t]; omega), by first | exact Nat.le_of_ble_eq_true rfl | (simp only [rm_X1_fillRow_a2, rm_X1_need_f, rm_X1_in, rm_X1_needIndex_t]; omega)⟩ dX1_fillRow_37 (Nat.le_of_ble_eq_true rfl) rfl rfl) (fun _ H1_ hk_ hp_ hd_ => fr_sel (ws := [oC h ad sn hsh]) (wc := []) (ws' := [oC h ad sn hsh]) [] [(false, 0)] rfl rfl (by decide) hP hD hk_ hF_5 hp_ hd_) (fun ce9 q9 u_5 H locs h_5 hP hD hS hce9 hcv9 hcl9 => ?_)
      have hP : va_P G.1 vwCl [oC h ad sn hsh] _ := hP
      have hD : va_D A [oC h ad sn hsh] := hD
      rw [hQQ]
      exact rt_x hexT hlk (()) hP hD hS hce9 hcv9 hcl9 (by first | exact Nat.le_of_ble_eq_true rfl | (simp only [rm_X1_fillRow_a2, rm_X1_in, rm_X1_needIndex_t, rm_X1_need_f]; omega) | omega) (by first | exact Nat.le_of_ble_eq_true rfl | (simp only [rm_X1_fillRow_a2, rm_X1_in, rm_X1_needIndex_t, rm_X1_need_f]; omega) | omega) trivial
    · skip
      exfalso; exact absurd (hby.symm.trans c_29) (by decide)
def rm_X1_fillRow_s : Room := ({ frames := 10, cells := 1, slots := 6, locals := 160 } : Room)
set_option maxHeartbeats 400000 in
set_option maxRecDepth 100000 in
theorem t_X1_fillRow_s (l : Launch) (G : GG) (b0 sz : Nat) (h : Nat) (ad : Nat → Nat) (sn : Value) (hsh : Int64) (r t b : Int32) (htr : l.stackTraces = false) (hri : inB r (nI 0) (nI 7) = true) (htt : isSh t = true) (hby : inB b (-36) (nI 36) = true) (h3t : isSh (t + nI 7 * b) = false) : CTX l yX1_fillRow cX1_fillRow 4 (some FieldType.int) (rm_X1_fillRow_s) G b0 [.ref h, .int r, .int t, .int b] [oC h ad sn hsh] sz "java/lang/IllegalStateException" (fun (_ : Unit) => True) (fun (_ : Unit) => [oC h ad sn hsh]) := by
  refine CTX.go (by decide) (Nat.le_of_ble_eq_true rfl) (fun p e s m below meth c A ls AR QQ hx hb hr hlk hml hown hnm hts hE hA hAb hsz hP hD hS hl hexT hQQ => ?_)
  have hK := hE.1
  have hown : s.vm.findClass RX1 = some m.cls := hown
  have hl : lv_has ls 4 [(0, .ref h), (1, .int r), (2, .int t), (3, .int b)] := hl
  clear hsz
  refine lv_iload_n hx hb dX1_fillRow_0 rfl (lv_at hl 1 rfl) ?_
  refine lv_iconst (v := nI 0) hx hb dX1_fillRow_1 (by decide) ?_
  refine lv_bipush (v := nI 7) hx hb dX1_fillRow_2 (by decide) ?_
  refine fin_i (ws' := (fun (_ : Unit) => [oC h ad sn hsh])) hA hS hP hD [] rfl [(false, 0)] (fun _ => rfl) (by decide) (run_S (As := [.int r, .int (nI 0), .int (nI 7)]) (rest := []) (n9 := 3) hx hb hml hown hts hE hAb hl.1 hS hP hD [] rfl (by decide) (t_X1_in l G b0 _ r (nI 0) (nI 7) ) (lw_S q1363 q1019 q106 q1020) ⟨by decide, by decide, by decide +kernel⟩ ⟨Nat.le_of_ble_eq_true rfl, Nat.le_of_ble_eq_true rfl⟩ ⟨by first | exact Nat.le_of_ble_eq_true rfl | (simp only [rm_X1_fillRow_s, rm_X1_in]; omega), by first | exact Nat.le_of_ble_eq_true rfl | (simp only [rm_X1_fillRow_s, rm_X1_in]; omega)⟩ dX1_fillRow_4 (Nat.le_of_ble_eq_true rfl) rfl rfl) (fun r_1 u_1 H locs h_1 hP hD hS => ?_)
  have hP : va_P G.1 vwCl [oC h ad sn hsh] _ := hP
  have hD : va_D A [oC h ad sn hsh] := hD
  have h_1 : r_1 = (bI (inB r (nI 0) (nI 7))) := h_1
  rw [h_1]
  refine W.eq (g2 := F0 m 7 ls [.int (bI true)]) (by rw [hri]) ?_
  refine fin_v (ws' := (fun (_ : Unit) => [oC h ad sn hsh])) hA hS hP hD [] rfl [(false, 0)] (fun _ => rfl) (by decide) (run_S (As := [.int (bI true)]) (rest := []) (n9 := 1) hx hb hml hown hts hE hAb hl.1 hS hP hD [] rfl (by decide) (t_X1_needIndex_t l G b0 _  ) (lw_S q1364 q1365 q106 q1366) ⟨by decide, by decide, by decide +kernel⟩ ⟨Nat.le_of_ble_eq_true rfl, Nat.le_of_ble_eq_true rfl⟩ ⟨by first | exact Nat.le_of_ble_eq_true rfl | (simp only [rm_X1_fillRow_s, rm_X1_needIndex_t, rm_X1_in]; omega), by first | exact Nat.le_of_ble_eq_true rfl | (simp only [rm_X1_fillRow_s, rm_X1_needIndex_t, rm_X1_in]; omega)⟩ dX1_fillRow_7 (Nat.le_of_ble_eq_true rfl) rfl rfl) (fun u_2 H locs h_2 hP hD hS => ?_)
  have hP : va_P G.1 vwCl [oC h ad sn hsh] _ := hP
  have hD : va_D A [oC h ad sn hsh] := hD
  refine lv_iload_n hx hb dX1_fillRow_10 rfl (lv_at hl 2 rfl) ?_
  refine lv_iconst (v := nI 0) hx hb dX1_fillRow_11 (by decide) ?_
  refine lv_sipush (v := nI 255) hx hb dX1_fillRow_12 (by decide) ?_
  refine fin_i (ws' := (fun (_ : Unit) => [oC h ad sn hsh])) hA hS hP hD [] rfl [(false, 0)] (fun _ => rfl) (by decide) (run_S (As := [.int t, .int (nI 0), .int (nI 255)]) (rest := []) (n9 := 3) hx hb hml hown hts hE hAb hl.1 hS hP hD [] rfl (by decide) (t_X1_in l G b0 _ t (nI 0) (nI 255) ) (lw_S q1363 q1019 q106 q1020) ⟨by decide, by decide, by decide +kernel⟩ ⟨Nat.le_of_ble_eq_true rfl, Nat.le_of_ble_eq_true rfl⟩ ⟨by first | exact Nat.le_of_ble_eq_true rfl | (simp only [rm_X1_fillRow_s, rm_X1_in, rm_X1_needIndex_t]; omega), by first | exact Nat.le_of_ble_eq_true rfl | (simp only [rm_X1_fillRow_s, rm_X1_in, rm_X1_needIndex_t]; omega)⟩ dX1_fillRow_15 (Nat.le_of_ble_eq_true rfl) rfl rfl) (fun r_3 u_3 H locs h_3 hP hD hS => ?_)
  have hP : va_P G.1 vwCl [oC h ad sn hsh] _ := hP
  have hD : va_D A [oC h ad sn hsh] := hD
  have h_3 : r_3 = (bI (inB t (nI 0) (nI 255))) := h_3
  rw [h_3]
  refine B_if_eq (tgt := 36) hx hb dX1_fillRow_18 (by decide) (fun c_18 => ?_) (fun c_18 => ?_)
  · skip
    exfalso; exact absurd ((show inB t (nI 0) (nI 255) = true from htt).symm.trans c_18) (by decide)
  · skip
    refine lv_iload_n hx hb dX1_fillRow_21 rfl (lv_at hl 3 rfl) ?_
    refine lv_bipush (v := (-36)) hx hb dX1_fillRow_22 (by decide) ?_
    refine lv_bipush (v := nI 36) hx hb dX1_fillRow_24 (by decide) ?_
    refine fin_i (ws' := (fun (_ : Unit) => [oC h ad sn hsh])) hA hS hP hD [] rfl [(false, 0)] (fun _ => rfl) (by decide) (run_S (As := [.int b, .int ((-36)), .int (nI 36)]) (rest := []) (n9 := 3) hx hb hml hown hts hE hAb hl.1 hS hP hD [] rfl (by decide) (t_X1_in l G b0 _ b ((-36)) (nI 36) ) (lw_S q1363 q1019 q106 q1020) ⟨by decide, by decide, by decide +kernel⟩ ⟨Nat.le_of_ble_eq_true rfl, Nat.le_of_ble_eq_true rfl⟩ ⟨by first | exact Nat.le_of_ble_eq_true rfl | (simp only [rm_X1_fillRow_s, rm_X1_in, rm_X1_needIndex_t]; omega), by first | exact Nat.le_of_ble_eq_true rfl | (simp only [rm_X1_fillRow_s, rm_X1_in, rm_X1_needIndex_t]; omega)⟩ dX1_fillRow_26 (Nat.le_of_ble_eq_true rfl) rfl rfl) (fun r_4 u_4 H locs h_4 hP hD hS => ?_)
    have hP : va_P G.1 vwCl [oC h ad sn hsh] _ := hP
    have hD : va_D A [oC h ad sn hsh] := hD
    have h_4 : r_4 = (bI (inB b ((-36)) (nI 36))) := h_4
    rw [h_4]
    refine B_if_eq (tgt := 36) hx hb dX1_fillRow_29 (by decide) (fun c_29 => ?_) (fun c_29 => ?_)
    · skip
      exfalso; exact absurd (hby.symm.trans c_29) (by decide)
    · skip
      refine lv_iconst (v := nI 1) hx hb dX1_fillRow_32 (by decide) ?_
      refine lv_goto (tgt := 37) hx hb dX1_fillRow_33 (by decide) ?_
      refine W.eq (g2 := F0 m 37 ls [.int (bI true)]) rfl ?_
      refine fin_v (ws' := (fun (_ : Unit) => [oC h ad sn hsh])) hA hS hP hD [] rfl [(false, 0)] (fun _ => rfl) (by decide) (run_S (As := [.int (bI true)]) (rest := []) (n9 := 1) hx hb hml hown hts hE hAb hl.1 hS hP hD [] rfl (by decide) (t_X1_need_t l G b0 _  ) (lw_S q1375 q1376 q106 q1377) ⟨by decide, by decide, by decide +kernel⟩ ⟨Nat.le_of_ble_eq_true rfl, Nat.le_of_ble_eq_true rfl⟩ ⟨by first | exact Nat.le_of_ble_eq_true rfl | (simp only [rm_X1_fillRow_s, rm_X1_need_t, rm_X1_in, rm_X1_needIndex_t]; omega), by first | exact Nat.le_of_ble_eq_true rfl | (simp only [rm_X1_fillRow_s, rm_X1_need_t, rm_X1_in, rm_X1_needIndex_t]; omega)⟩ dX1_fillRow_37 (Nat.le_of_ble_eq_true rfl) rfl rfl) (fun u_5 H locs h_5 hP hD hS => ?_)
      have hP : va_P G.1 vwCl [oC h ad sn hsh] _ := hP
      have hD : va_D A [oC h ad sn hsh] := hD
      refine lv_iload_n hx hb dX1_fillRow_40 rfl (lv_at hl 2 rfl) ?_
      refine lv_bipush (v := nI 7) hx hb dX1_fillRow_41 (by decide) ?_
      refine lv_iload_n hx hb dX1_fillRow_43 rfl (lv_at hl 3 rfl) ?_
      refine lv_imul hx hb dX1_fillRow_44 ?_
      refine lv_iadd hx hb dX1_fillRow_45 ?_
      refine lv_iconst (v := nI 0) hx hb dX1_fillRow_46 (by decide) ?_
      refine lv_sipush (v := nI 255) hx hb dX1_fillRow_47 (by decide) ?_
      refine fin_i (ws' := (fun (_ : Unit) => [oC h ad sn hsh])) hA hS hP hD [] rfl [(false, 0)] (fun _ => rfl) (by decide) (run_S (As := [.int (t + ((nI 7) * b)), .int (nI 0), .int (nI 255)]) (rest := []) (n9 := 3) hx hb hml hown hts hE hAb hl.1 hS hP hD [] rfl (by decide) (t_X1_in l G b0 _ (t + ((nI 7) * b)) (nI 0) (nI 255) ) (lw_S q1363 q1019 q106 q1020) ⟨by decide, by decide, by decide +kernel⟩ ⟨Nat.le_of_ble_eq_true rfl, Nat.le_of_ble_eq_true rfl⟩ ⟨by first | exact Nat.le_of_ble_eq_true rfl | (simp only [rm_X1_fillRow_s, rm_X1_in, rm_X1_needIndex_t, rm_X1_need_t]; omega), by first | exact Nat.le_of_ble_eq_true rfl | (simp only [rm_X1_fillRow_s, rm_X1_in, rm_X1_needIndex_t, rm_X1_need_t]; omega)⟩ dX1_fillRow_50 (Nat.le_of_ble_eq_true rfl) rfl rfl) (fun r_6 u_6 H locs h_6 hP hD hS => ?_)
      have hP : va_P G.1 vwCl [oC h ad sn hsh] _ := hP
      have hD : va_D A [oC h ad sn hsh] := hD
      have h_6 : r_6 = (bI (inB (t + ((nI 7) * b)) (nI 0) (nI 255))) := h_6
      rw [h_6]
      refine W.eq (g2 := F0 m 53 ls [.int (bI false)]) (by rw [show inB (t + nI 7 * b) (nI 0) (nI 255) = false from h3t]) ?_
      have hF_7 := fr_free (wc := []) [] rfl hA hS hD
      refine fin_x (ws' := (fun (_ : Unit) => [oC h ad sn hsh])) hS hF_7 (run_SX (As := [.int (bI false)]) (rest := []) (n9 := 1) hx hb hml hown hts hE hAb hl.1 hS hP hD [] rfl (by decide) (t_X1_needState_f l G b0 _  (by omega)) (lw_S q1392 q1393 q106 q1394) ⟨by decide, by decide, by decide +kernel⟩ ⟨Nat.le_of_ble_eq_true rfl, Nat.le_of_ble_eq_true rfl⟩ ⟨by first | exact Nat.le_of_ble_eq_true rfl | (simp only [rm_X1_fillRow_s, rm_X1_needState_f, rm_X1_in, rm_X1_needIndex_t, rm_X1_need_t]; omega), by first | exact Nat.le_of_ble_eq_true rfl | (simp only [rm_X1_fillRow_s, rm_X1_needState_f, rm_X1_in, rm_X1_needIndex_t, rm_X1_need_t]; omega)⟩ dX1_fillRow_53 (Nat.le_of_ble_eq_true rfl) rfl rfl) (fun _ H1_ hk_ hp_ hd_ => fr_sel (ws := [oC h ad sn hsh]) (wc := []) (ws' := [oC h ad sn hsh]) [] [(false, 0)] rfl rfl (by decide) hP hD hk_ hF_7 hp_ hd_) (fun ce9 q9 u_7 H locs h_7 hP hD hS hce9 hcv9 hcl9 => ?_)
      have hP : va_P G.1 vwCl [oC h ad sn hsh] _ := hP
      have hD : va_D A [oC h ad sn hsh] := hD
      rw [hQQ]
      exact rt_x hexT hlk (()) hP hD hS hce9 hcv9 hcl9 (by first | exact Nat.le_of_ble_eq_true rfl | (simp only [rm_X1_fillRow_s, rm_X1_in, rm_X1_needIndex_t, rm_X1_need_t, rm_X1_needState_f]; omega) | omega) (by first | exact Nat.le_of_ble_eq_true rfl | (simp only [rm_X1_fillRow_s, rm_X1_in, rm_X1_needIndex_t, rm_X1_need_t, rm_X1_needState_f]; omega) | omega) trivial
def rm_X1_setPart_a : Room := ({ frames := 10, cells := 1, slots := 6, locals := 160 } : Room)
set_option maxHeartbeats 400000 in
set_option maxRecDepth 100000 in
theorem t_X1_setPart_a (l : Launch) (G : GG) (b0 sz : Nat) (h : Nat) (ad : Nat → Nat) (sn : Value) (hsh : Int64) (r c_ : Nat) (t : Int32) (htr : l.stackTraces = false) (hr_ : r < 8) (hc_ : c_ < 8) (htv : inB t (-255) (nI 255) = false) : CTX l yX1_setPart cX1_setPart 5 (some FieldType.int) (rm_X1_setPart_a) G b0 [.ref h, .int (nI r), .int (nI c_), .int t] [oC h ad sn hsh] sz "java/lang/IllegalArgumentException" (fun (_ : Unit) => True) (fun (_ : Unit) => [oC h ad sn hsh]) := by
  refine CTX.go (by decide) (Nat.le_of_ble_eq_true rfl) (fun p e s m below meth c A ls AR QQ hx hb hr hlk hml hown hnm hts hE hA hAb hsz hP hD hS hl hexT hQQ => ?_)
  have hK := hE.1
  have hown : s.vm.findClass RX1 = some m.cls := hown
  have hl : lv_has ls 5 [(0, .ref h), (1, .int (nI r)), (2, .int (nI c_)), (3, .int t)] := hl
  clear hsz
  refine lv_iload_n hx hb dX1_setPart_0 rfl (lv_at hl 1 rfl) ?_
  refine lv_iload_n hx hb dX1_setPart_1 rfl (lv_at hl 2 rfl) ?_
  refine fin_i (ws' := (fun (_ : Unit) => [oC h ad sn hsh])) hA hS hP hD [] rfl [(false, 0)] (fun _ => rfl) (by decide) (run_S (As := [.int (nI r), .int (nI c_)]) (rest := []) (n9 := 2) hx hb hml hown hts hE hAb hl.1 hS hP hD [] rfl (by decide) (t_X1_cellBy_t l G b0 _ r c_ (by omega) (by omega)) (lw_S q1360 q1361 q106 q1362) ⟨by decide, by decide, by decide +kernel⟩ ⟨Nat.le_of_ble_eq_true rfl, Nat.le_of_ble_eq_true rfl⟩ ⟨by first | exact Nat.le_of_ble_eq_true rfl | (simp only [rm_X1_setPart_a, rm_X1_cellBy_t]; omega), by first | exact Nat.le_of_ble_eq_true rfl | (simp only [rm_X1_setPart_a, rm_X1_cellBy_t]; omega)⟩ dX1_setPart_2 (Nat.le_of_ble_eq_true rfl) rfl rfl) (fun r_1 u_1 H locs h_1 hP hD hS => ?_)
  have hP : va_P G.1 vwCl [oC h ad sn hsh] _ := hP
  have hD : va_D A [oC h ad sn hsh] := hD
  have h_1 : r_1 = (nI (8 * r + c_)) := h_1
  rw [h_1]
  refine lv_istore (lv' := [(4, .int (nI (8 * r + c_))), (0, .ref h), (1, .int (nI r)), (2, .int (nI c_)), (3, .int t)]) hx hb dX1_setPart_5 hl (by decide) rfl (fun ls hl => ?_)
  refine lv_iload_n hx hb dX1_setPart_7 rfl (lv_at hl 4 rfl) ?_
  refine lv_sipush (v := (-255)) hx hb dX1_setPart_8 (by decide) ?_
  refine lv_sipush (v := nI 255) hx hb dX1_setPart_11 (by decide) ?_
  refine fin_i (ws' := (fun (_ : Unit) => [oC h ad sn hsh])) hA hS hP hD [] rfl [(false, 0)] (fun _ => rfl) (by decide) (run_S (As := [.int t, .int ((-255)), .int (nI 255)]) (rest := []) (n9 := 3) hx hb hml hown hts hE hAb hl.1 hS hP hD [] rfl (by decide) (t_X1_in l G b0 _ t ((-255)) (nI 255) ) (lw_S q1363 q1019 q106 q1020) ⟨by decide, by decide, by decide +kernel⟩ ⟨Nat.le_of_ble_eq_true rfl, Nat.le_of_ble_eq_true rfl⟩ ⟨by first | exact Nat.le_of_ble_eq_true rfl | (simp only [rm_X1_setPart_a, rm_X1_in, rm_X1_cellBy_t]; omega), by first | exact Nat.le_of_ble_eq_true rfl | (simp only [rm_X1_setPart_a, rm_X1_in, rm_X1_cellBy_t]; omega)⟩ dX1_setPart_14 (Nat.le_of_ble_eq_true rfl) rfl rfl) (fun r_2 u_2 H locs h_2 hP hD hS => ?_)
  have hP : va_P G.1 vwCl [oC h ad sn hsh] _ := hP
  have hD : va_D A [oC h ad sn hsh] := hD
  have h_2 : r_2 = (bI (inB t ((-255)) (nI 255))) := h_2
  rw [h_2]
  refine W.eq (g2 := F0 m 17 ls [.int (bI false)]) (by rw [htv]) ?_
  have hF_3 := fr_free (wc := []) [] rfl hA hS hD
  refine fin_x (ws' := (fun (_ : Unit) => [oC h ad sn hsh])) hS hF_3 (run_SX (As := [.int (bI false)]) (rest := []) (n9 := 1) hx hb hml hown hts hE hAb hl.1 hS hP hD [] rfl (by decide) (t_X1_need_f l G b0 _  (by omega)) (lw_S q1375 q1376 q106 q1377) ⟨by decide, by decide, by decide +kernel⟩ ⟨Nat.le_of_ble_eq_true rfl, Nat.le_of_ble_eq_true rfl⟩ ⟨by first | exact Nat.le_of_ble_eq_true rfl | (simp only [rm_X1_setPart_a, rm_X1_need_f, rm_X1_cellBy_t, rm_X1_in]; omega), by first | exact Nat.le_of_ble_eq_true rfl | (simp only [rm_X1_setPart_a, rm_X1_need_f, rm_X1_cellBy_t, rm_X1_in]; omega)⟩ dX1_setPart_17 (Nat.le_of_ble_eq_true rfl) rfl rfl) (fun _ H1_ hk_ hp_ hd_ => fr_sel (ws := [oC h ad sn hsh]) (wc := []) (ws' := [oC h ad sn hsh]) [] [(false, 0)] rfl rfl (by decide) hP hD hk_ hF_3 hp_ hd_) (fun ce9 q9 u_3 H locs h_3 hP hD hS hce9 hcv9 hcl9 => ?_)
  have hP : va_P G.1 vwCl [oC h ad sn hsh] _ := hP
  have hD : va_D A [oC h ad sn hsh] := hD
  rw [hQQ]
  exact rt_x hexT hlk (()) hP hD hS hce9 hcv9 hcl9 (by first | exact Nat.le_of_ble_eq_true rfl | (simp only [rm_X1_setPart_a, rm_X1_cellBy_t, rm_X1_in, rm_X1_need_f]; omega) | omega) (by first | exact Nat.le_of_ble_eq_true rfl | (simp only [rm_X1_setPart_a, rm_X1_cellBy_t, rm_X1_in, rm_X1_need_f]; omega) | omega) trivial
def rm_X1_setPart_s : Room := ({ frames := 10, cells := 1, slots := 6, locals := 160 } : Room)
set_option maxHeartbeats 400000 in
set_option maxRecDepth 100000 in
theorem t_X1_setPart_s (l : Launch) (G : GG) (b0 sz : Nat) (h : Nat) (ad : Nat → Nat) (sn : Value) (hsh : Int64) (L : Nat) (stp why : Int32) (st : Nat → Int32) (li : Nat → Int32) (pa : Nat → Int32) (ot : Nat → Int32) (rm : Nat → Int32) (r c_ : Nat) (t : Int32) (htr : l.stackTraces = false) (hL1 : 1 ≤ L) (hL : L ≤ 3) (hr_ : r < 8) (hc_ : c_ < 8) (htv : inB t (-255) (nI 255) = true) (hcp : allB (shsB (joinP L (upd (splitP st L) (8 * r + c_) t))) 64 = false) : CTX l yX1_setPart cX1_setPart 5 (some FieldType.int) (rm_X1_setPart_s) G b0 [.ref h, .int (nI r), .int (nI c_), .int t] [oC h ad sn hsh, oX (ad 1) 1 [.ref (ad 11), .int (nI L), .int stp, .int why], aI G (ad 11) 64 st, oX (ad 3) 5 [.ref (ad 12)], aI G (ad 12) 8 li, aI G (ad 6) 64 pa, aI G (ad 7) 64 ot, aI G (ad 8) 64 rm] sz "java/lang/IllegalStateException" (fun (u : Nat → Int32) => True) (fun (u : Nat → Int32) => [oC h ad sn hsh, oX (ad 1) 1 [.ref (ad 11), .int (nI L), .int stp, .int why], aI G (ad 11) 64 st, oX (ad 3) 5 [.ref (ad 12)], aI G (ad 12) 8 u, aI G (ad 6) 64 (splitP st L), aI G (ad 7) 64 (upd (splitP st L) (8 * r + c_) t), aI G (ad 8) 64 (joinP L (upd (splitP st L) (8 * r + c_) t))]) := by
  refine CTX.go (by decide) (Nat.le_of_ble_eq_true rfl) (fun p e s m below meth c A ls AR QQ hx hb hr hlk hml hown hnm hts hE hA hAb hsz hP hD hS hl hexT hQQ => ?_)
  have hK := hE.1
  have hown : s.vm.findClass RX1 = some m.cls := hown
  have hl : lv_has ls 5 [(0, .ref h), (1, .int (nI r)), (2, .int (nI c_)), (3, .int t)] := hl
  clear hsz
  refine lv_iload_n hx hb dX1_setPart_0 rfl (lv_at hl 1 rfl) ?_
  refine lv_iload_n hx hb dX1_setPart_1 rfl (lv_at hl 2 rfl) ?_
  refine fin_i (ws' := (fun (_ : Unit) => [oC h ad sn hsh, oX (ad 1) 1 [.ref (ad 11), .int (nI L), .int stp, .int why], aI G (ad 11) 64 st, oX (ad 3) 5 [.ref (ad 12)], aI G (ad 12) 8 li, aI G (ad 6) 64 pa, aI G (ad 7) 64 ot, aI G (ad 8) 64 rm])) hA hS hP hD [] rfl [(false, 0), (false, 1), (false, 2), (false, 3), (false, 4), (false, 5), (false, 6), (false, 7)] (fun _ => rfl) (by decide) (run_S (As := [.int (nI r), .int (nI c_)]) (rest := []) (n9 := 2) hx hb hml hown hts hE hAb hl.1 hS hP hD [] rfl (by decide) (t_X1_cellBy_t l G b0 _ r c_ (by omega) (by omega)) (lw_S q1360 q1361 q106 q1362) ⟨by decide, by decide, by decide +kernel⟩ ⟨Nat.le_of_ble_eq_true rfl, Nat.le_of_ble_eq_true rfl⟩ ⟨by first | exact Nat.le_of_ble_eq_true rfl | (simp only [rm_X1_setPart_s, rm_X1_cellBy_t]; omega), by first | exact Nat.le_of_ble_eq_true rfl | (simp only [rm_X1_setPart_s, rm_X1_cellBy_t]; omega)⟩ dX1_setPart_2 (Nat.le_of_ble_eq_true rfl) rfl rfl) (fun r_1 u_1 H locs h_1 hP hD hS => ?_)
  have hP : va_P G.1 vwCl [oC h ad sn hsh, oX (ad 1) 1 [.ref (ad 11), .int (nI L), .int stp, .int why], aI G (ad 11) 64 st, oX (ad 3) 5 [.ref (ad 12)], aI G (ad 12) 8 li, aI G (ad 6) 64 pa, aI G (ad 7) 64 ot, aI G (ad 8) 64 rm] _ := hP
  have hD : va_D A [oC h ad sn hsh, oX (ad 1) 1 [.ref (ad 11), .int (nI L), .int stp, .int why], aI G (ad 11) 64 st, oX (ad 3) 5 [.ref (ad 12)], aI G (ad 12) 8 li, aI G (ad 6) 64 pa, aI G (ad 7) 64 ot, aI G (ad 8) 64 rm] := hD
  have h_1 : r_1 = (nI (8 * r + c_)) := h_1
  rw [h_1]
  refine lv_istore (lv' := [(4, .int (nI (8 * r + c_))), (0, .ref h), (1, .int (nI r)), (2, .int (nI c_)), (3, .int t)]) hx hb dX1_setPart_5 hl (by decide) rfl (fun ls hl => ?_)
  refine lv_iload_n hx hb dX1_setPart_7 rfl (lv_at hl 4 rfl) ?_
  refine lv_sipush (v := (-255)) hx hb dX1_setPart_8 (by decide) ?_
  refine lv_sipush (v := nI 255) hx hb dX1_setPart_11 (by decide) ?_
  refine fin_i (ws' := (fun (_ : Unit) => [oC h ad sn hsh, oX (ad 1) 1 [.ref (ad 11), .int (nI L), .int stp, .int why], aI G (ad 11) 64 st, oX (ad 3) 5 [.ref (ad 12)], aI G (ad 12) 8 li, aI G (ad 6) 64 pa, aI G (ad 7) 64 ot, aI G (ad 8) 64 rm])) hA hS hP hD [] rfl [(false, 0), (false, 1), (false, 2), (false, 3), (false, 4), (false, 5), (false, 6), (false, 7)] (fun _ => rfl) (by decide) (run_S (As := [.int t, .int ((-255)), .int (nI 255)]) (rest := []) (n9 := 3) hx hb hml hown hts hE hAb hl.1 hS hP hD [] rfl (by decide) (t_X1_in l G b0 _ t ((-255)) (nI 255) ) (lw_S q1363 q1019 q106 q1020) ⟨by decide, by decide, by decide +kernel⟩ ⟨Nat.le_of_ble_eq_true rfl, Nat.le_of_ble_eq_true rfl⟩ ⟨by first | exact Nat.le_of_ble_eq_true rfl | (simp only [rm_X1_setPart_s, rm_X1_in, rm_X1_cellBy_t]; omega), by first | exact Nat.le_of_ble_eq_true rfl | (simp only [rm_X1_setPart_s, rm_X1_in, rm_X1_cellBy_t]; omega)⟩ dX1_setPart_14 (Nat.le_of_ble_eq_true rfl) rfl rfl) (fun r_2 u_2 H locs h_2 hP hD hS => ?_)
  have hP : va_P G.1 vwCl [oC h ad sn hsh, oX (ad 1) 1 [.ref (ad 11), .int (nI L), .int stp, .int why], aI G (ad 11) 64 st, oX (ad 3) 5 [.ref (ad 12)], aI G (ad 12) 8 li, aI G (ad 6) 64 pa, aI G (ad 7) 64 ot, aI G (ad 8) 64 rm] _ := hP
  have hD : va_D A [oC h ad sn hsh, oX (ad 1) 1 [.ref (ad 11), .int (nI L), .int stp, .int why], aI G (ad 11) 64 st, oX (ad 3) 5 [.ref (ad 12)], aI G (ad 12) 8 li, aI G (ad 6) 64 pa, aI G (ad 7) 64 ot, aI G (ad 8) 64 rm] := hD
  have h_2 : r_2 = (bI (inB t ((-255)) (nI 255))) := h_2
  rw [h_2]
  refine W.eq (g2 := F0 m 17 ls [.int (bI true)]) (by rw [htv]) ?_
  refine fin_v (ws' := (fun (_ : Unit) => [oC h ad sn hsh, oX (ad 1) 1 [.ref (ad 11), .int (nI L), .int stp, .int why], aI G (ad 11) 64 st, oX (ad 3) 5 [.ref (ad 12)], aI G (ad 12) 8 li, aI G (ad 6) 64 pa, aI G (ad 7) 64 ot, aI G (ad 8) 64 rm])) hA hS hP hD [] rfl [(false, 0), (false, 1), (false, 2), (false, 3), (false, 4), (false, 5), (false, 6), (false, 7)] (fun _ => rfl) (by decide) (run_S (As := [.int (bI true)]) (rest := []) (n9 := 1) hx hb hml hown hts hE hAb hl.1 hS hP hD [] rfl (by decide) (t_X1_need_t l G b0 _  ) (lw_S q1375 q1376 q106 q1377) ⟨by decide, by decide, by decide +kernel⟩ ⟨Nat.le_of_ble_eq_true rfl, Nat.le_of_ble_eq_true rfl⟩ ⟨by first | exact Nat.le_of_ble_eq_true rfl | (simp only [rm_X1_setPart_s, rm_X1_need_t, rm_X1_cellBy_t, rm_X1_in]; omega), by first | exact Nat.le_of_ble_eq_true rfl | (simp only [rm_X1_setPart_s, rm_X1_need_t, rm_X1_cellBy_t, rm_X1_in]; omega)⟩ dX1_setPart_17 (Nat.le_of_ble_eq_true rfl) rfl rfl) (fun u_3 H locs h_3 hP hD hS => ?_)
  have hP : va_P G.1 vwCl [oC h ad sn hsh, oX (ad 1) 1 [.ref (ad 11), .int (nI L), .int stp, .int why], aI G (ad 11) 64 st, oX (ad 3) 5 [.ref (ad 12)], aI G (ad 12) 8 li, aI G (ad 6) 64 pa, aI G (ad 7) 64 ot, aI G (ad 8) 64 rm] _ := hP
  have hD : va_D A [oC h ad sn hsh, oX (ad 1) 1 [.ref (ad 11), .int (nI L), .int stp, .int why], aI G (ad 11) 64 st, oX (ad 3) 5 [.ref (ad 12)], aI G (ad 12) 8 li, aI G (ad 6) 64 pa, aI G (ad 7) 64 ot, aI G (ad 8) 64 rm] := hD
  refine lv_aload_n hx hb dX1_setPart_20 rfl (lv_at hl 1 rfl) ?_
  refine lv_iload hx hb dX1_setPart_21 (lv_at hl 0 rfl) ?_
  refine lv_iload_n hx hb dX1_setPart_23 rfl (lv_at hl 4 rfl) ?_
  refine fin_i (ws' := (fun (u_4 : Nat → Int32) => [oC h ad sn hsh, oX (ad 1) 1 [.ref (ad 11), .int (nI L), .int stp, .int why], aI G (ad 11) 64 st, oX (ad 3) 5 [.ref (ad 12)], aI G (ad 12) 8 u_4, aI G (ad 6) 64 (splitP st L), aI G (ad 7) 64 (upd (splitP st L) (8 * r + c_) t), aI G (ad 8) 64 (joinP L (upd (splitP st L) (8 * r + c_) t))])) hA hS hP hD [0, 1, 2, 3, 4, 5, 6, 7] rfl [(true, 0), (true, 1), (true, 2), (true, 3), (true, 4), (true, 5), (true, 6), (true, 7)] (fun _ => rfl) (by decide) (run_V (As := [.int (nI (8 * r + c_)), .int t]) (rest := []) (n9 := 2) hx hb hml hown hts hE hAb hl.1 hS hP hD [0, 1, 2, 3, 4, 5, 6, 7] rfl (by decide) (t_X1_canSet l G b0 _ h ad sn hsh L stp why st li pa ot rm (8 * r + c_) t (by omega) (by omega) (by omega)) (lw_V q1421 q1423 qs57 q106 q1424) 0 rfl rfl ⟨rfl, by decide, by decide, by decide +kernel⟩ ⟨Nat.le_of_ble_eq_true rfl, Nat.le_of_ble_eq_true rfl⟩ ⟨by first | exact Nat.le_of_ble_eq_true rfl | (simp only [rm_X1_setPart_s, rm_X1_canSet, rm_X1_cellBy_t, rm_X1_in, rm_X1_need_t]; omega), by first | exact Nat.le_of_ble_eq_true rfl | (simp only [rm_X1_setPart_s, rm_X1_canSet, rm_X1_cellBy_t, rm_X1_in, rm_X1_need_t]; omega)⟩ dX1_setPart_24 (Nat.le_of_ble_eq_true rfl) rfl rfl) (fun r_4 u_4 H locs h_4 hP hD hS => ?_)
  have hP : va_P G.1 vwCl [oC h ad sn hsh, oX (ad 1) 1 [.ref (ad 11), .int (nI L), .int stp, .int why], aI G (ad 11) 64 st, oX (ad 3) 5 [.ref (ad 12)], aI G (ad 12) 8 u_4, aI G (ad 6) 64 (splitP st L), aI G (ad 7) 64 (upd (splitP st L) (8 * r + c_) t), aI G (ad 8) 64 (joinP L (upd (splitP st L) (8 * r + c_) t))] _ := hP
  have hD : va_D A [oC h ad sn hsh, oX (ad 1) 1 [.ref (ad 11), .int (nI L), .int stp, .int why], aI G (ad 11) 64 st, oX (ad 3) 5 [.ref (ad 12)], aI G (ad 12) 8 u_4, aI G (ad 6) 64 (splitP st L), aI G (ad 7) 64 (upd (splitP st L) (8 * r + c_) t), aI G (ad 8) 64 (joinP L (upd (splitP st L) (8 * r + c_) t))] := hD
  have h_4 : r_4 = (bI (allB (shsB (joinP L (upd (splitP st L) (8 * r + c_) t))) 64)) := h_4
  rw [h_4]
  refine W.eq (g2 := F0 m 27 ls [.int (bI false)]) (by rw [hcp]) ?_
  have hF_5 := fr_free (wc := []) [] rfl hA hS hD
  refine fin_x (ws' := (fun (_ : Unit) => [oC h ad sn hsh, oX (ad 1) 1 [.ref (ad 11), .int (nI L), .int stp, .int why], aI G (ad 11) 64 st, oX (ad 3) 5 [.ref (ad 12)], aI G (ad 12) 8 u_4, aI G (ad 6) 64 (splitP st L), aI G (ad 7) 64 (upd (splitP st L) (8 * r + c_) t), aI G (ad 8) 64 (joinP L (upd (splitP st L) (8 * r + c_) t))])) hS hF_5 (run_SX (As := [.int (bI false)]) (rest := []) (n9 := 1) hx hb hml hown hts hE hAb hl.1 hS hP hD [] rfl (by decide) (t_X1_needState_f l G b0 _  (by omega)) (lw_S q1392 q1393 q106 q1394) ⟨by decide, by decide, by decide +kernel⟩ ⟨Nat.le_of_ble_eq_true rfl, Nat.le_of_ble_eq_true rfl⟩ ⟨by first | exact Nat.le_of_ble_eq_true rfl | (simp only [rm_X1_setPart_s, rm_X1_needState_f, rm_X1_cellBy_t, rm_X1_in, rm_X1_need_t, rm_X1_canSet]; omega), by first | exact Nat.le_of_ble_eq_true rfl | (simp only [rm_X1_setPart_s, rm_X1_needState_f, rm_X1_cellBy_t, rm_X1_in, rm_X1_need_t, rm_X1_canSet]; omega)⟩ dX1_setPart_27 (Nat.le_of_ble_eq_true rfl) rfl rfl) (fun _ H1_ hk_ hp_ hd_ => fr_sel (ws := [oC h ad sn hsh, oX (ad 1) 1 [.ref (ad 11), .int (nI L), .int stp, .int why], aI G (ad 11) 64 st, oX (ad 3) 5 [.ref (ad 12)], aI G (ad 12) 8 u_4, aI G (ad 6) 64 (splitP st L), aI G (ad 7) 64 (upd (splitP st L) (8 * r + c_) t), aI G (ad 8) 64 (joinP L (upd (splitP st L) (8 * r + c_) t))]) (wc := []) (ws' := [oC h ad sn hsh, oX (ad 1) 1 [.ref (ad 11), .int (nI L), .int stp, .int why], aI G (ad 11) 64 st, oX (ad 3) 5 [.ref (ad 12)], aI G (ad 12) 8 u_4, aI G (ad 6) 64 (splitP st L), aI G (ad 7) 64 (upd (splitP st L) (8 * r + c_) t), aI G (ad 8) 64 (joinP L (upd (splitP st L) (8 * r + c_) t))]) [] [(false, 0), (false, 1), (false, 2), (false, 3), (false, 4), (false, 5), (false, 6), (false, 7)] rfl rfl (by decide) hP hD hk_ hF_5 hp_ hd_) (fun ce9 q9 u_5 H locs h_5 hP hD hS hce9 hcv9 hcl9 => ?_)
  have hP : va_P G.1 vwCl [oC h ad sn hsh, oX (ad 1) 1 [.ref (ad 11), .int (nI L), .int stp, .int why], aI G (ad 11) 64 st, oX (ad 3) 5 [.ref (ad 12)], aI G (ad 12) 8 u_4, aI G (ad 6) 64 (splitP st L), aI G (ad 7) 64 (upd (splitP st L) (8 * r + c_) t), aI G (ad 8) 64 (joinP L (upd (splitP st L) (8 * r + c_) t))] _ := hP
  have hD : va_D A [oC h ad sn hsh, oX (ad 1) 1 [.ref (ad 11), .int (nI L), .int stp, .int why], aI G (ad 11) 64 st, oX (ad 3) 5 [.ref (ad 12)], aI G (ad 12) 8 u_4, aI G (ad 6) 64 (splitP st L), aI G (ad 7) 64 (upd (splitP st L) (8 * r + c_) t), aI G (ad 8) 64 (joinP L (upd (splitP st L) (8 * r + c_) t))] := hD
  rw [hQQ]
  exact rt_x hexT hlk u_4 hP hD hS hce9 hcv9 hcl9 (by first | exact Nat.le_of_ble_eq_true rfl | (simp only [rm_X1_setPart_s, rm_X1_cellBy_t, rm_X1_in, rm_X1_need_t, rm_X1_canSet, rm_X1_needState_f]; omega) | omega) (by first | exact Nat.le_of_ble_eq_true rfl | (simp only [rm_X1_setPart_s, rm_X1_cellBy_t, rm_X1_in, rm_X1_need_t, rm_X1_canSet, rm_X1_needState_f]; omega) | omega) trivial
def rm_X1_dropCrumbs_s : Room := ({ frames := 10, cells := 1, slots := 6, locals := 160 } : Room)
set_option maxHeartbeats 400000 in
set_option maxRecDepth 100000 in
theorem t_X1_dropCrumbs_s (l : Launch) (G : GG) (b0 sz : Nat) (h : Nat) (ad : Nat → Nat) (sn : Value) (hsh : Int64) (L : Nat) (stp why : Int32) (st : Nat → Int32) (li : Nat → Int32) (pa : Nat → Int32) (ot : Nat → Int32) (t : Int32) (htr : l.stackTraces = false) (hL1 : 1 ≤ L) (hL : L ≤ 3) (htt : isSh t = true) (hcn : cntN (crmB L t (splitP st L)) 64 = 0) : CTX l yX1_dropCrumbs cX1_dropCrumbs 3 (some FieldType.int) (rm_X1_dropCrumbs_s) G b0 [.ref h, .int t] [oC h ad sn hsh, oX (ad 1) 1 [.ref (ad 11), .int (nI L), .int stp, .int why], aI G (ad 11) 64 st, oX (ad 3) 5 [.ref (ad 12)], aI G (ad 12) 8 li, aI G (ad 6) 64 pa, aI G (ad 7) 64 ot, aR G (ad 2) 3 (orF ad), oX (ad (15 + L)) 2 [.ref (ad (16 + 3 * L)), .ref (ad (17 + 3 * L)), .ref (ad (18 + 3 * L)), .int (nI 64)], aI G (ad (18 + 3 * L)) 64 (nF (bnT L))] sz "java/lang/IllegalStateException" (fun (u : Nat → Int32) => True) (fun (u : Nat → Int32) => [oC h ad sn hsh, oX (ad 1) 1 [.ref (ad 11), .int (nI L), .int stp, .int why], aI G (ad 11) 64 st, oX (ad 3) 5 [.ref (ad 12)], aI G (ad 12) 8 u, aI G (ad 6) 64 (splitP st L), aI G (ad 7) 64 (drpA L t (splitP st L)), aR G (ad 2) 3 (orF ad), oX (ad (15 + L)) 2 [.ref (ad (16 + 3 * L)), .ref (ad (17 + 3 * L)), .ref (ad (18 + 3 * L)), .int (nI 64)], aI G (ad (18 + 3 * L)) 64 (nF (bnT L))]) := by
  refine CTX.go (by decide) (Nat.le_of_ble_eq_true rfl) (fun p e s m below meth c A ls AR QQ hx hb hr hlk hml hown hnm hts hE hA hAb hsz hP hD hS hl hexT hQQ => ?_)
  have hK := hE.1
  have hown : s.vm.findClass RX1 = some m.cls := hown
  have hl : lv_has ls 3 [(0, .ref h), (1, .int t)] := hl
  clear hsz
  refine lv_iload_n hx hb dX1_dropCrumbs_0 rfl (lv_at hl 1 rfl) ?_
  refine fin_v (ws' := (fun (_ : Unit) => [oC h ad sn hsh, oX (ad 1) 1 [.ref (ad 11), .int (nI L), .int stp, .int why], aI G (ad 11) 64 st, oX (ad 3) 5 [.ref (ad 12)], aI G (ad 12) 8 li, aI G (ad 6) 64 pa, aI G (ad 7) 64 ot, aR G (ad 2) 3 (orF ad), oX (ad (15 + L)) 2 [.ref (ad (16 + 3 * L)), .ref (ad (17 + 3 * L)), .ref (ad (18 + 3 * L)), .int (nI 64)], aI G (ad (18 + 3 * L)) 64 (nF (bnT L))])) hA hS hP hD [] rfl [(false, 0), (false, 1), (false, 2), (false, 3), (false, 4), (false, 5), (false, 6), (false, 7), (false, 8), (false, 9)] (fun _ => rfl) (by decide) (run_S (As := [.int t]) (rest := []) (n9 := 1) hx hb hml hown hts hE hAb hl.1 hS hP hD [] rfl (by decide) (t_X1_needShade_t l G b0 _ t (by omega)) (lw_S q1372 q1373 q106 q1374) ⟨by decide, by decide, by decide +kernel⟩ ⟨Nat.le_of_ble_eq_true rfl, Nat.le_of_ble_eq_true rfl⟩ ⟨by first | exact Nat.le_of_ble_eq_true rfl | (simp only [rm_X1_dropCrumbs_s, rm_X1_needShade_t]; omega), by first | exact Nat.le_of_ble_eq_true rfl | (simp only [rm_X1_dropCrumbs_s, rm_X1_needShade_t]; omega)⟩ dX1_dropCrumbs_1 (Nat.le_of_ble_eq_true rfl) rfl rfl) (fun u_1 H locs h_1 hP hD hS => ?_)
  have hP : va_P G.1 vwCl [oC h ad sn hsh, oX (ad 1) 1 [.ref (ad 11), .int (nI L), .int stp, .int why], aI G (ad 11) 64 st, oX (ad 3) 5 [.ref (ad 12)], aI G (ad 12) 8 li, aI G (ad 6) 64 pa, aI G (ad 7) 64 ot, aR G (ad 2) 3 (orF ad), oX (ad (15 + L)) 2 [.ref (ad (16 + 3 * L)), .ref (ad (17 + 3 * L)), .ref (ad (18 + 3 * L)), .int (nI 64)], aI G (ad (18 + 3 * L)) 64 (nF (bnT L))] _ := hP
  have hD : va_D A [oC h ad sn hsh, oX (ad 1) 1 [.ref (ad 11), .int (nI L), .int stp, .int why], aI G (ad 11) 64 st, oX (ad 3) 5 [.ref (ad 12)], aI G (ad 12) 8 li, aI G (ad 6) 64 pa, aI G (ad 7) 64 ot, aR G (ad 2) 3 (orF ad), oX (ad (15 + L)) 2 [.ref (ad (16 + 3 * L)), .ref (ad (17 + 3 * L)), .ref (ad (18 + 3 * L)), .int (nI 64)], aI G (ad (18 + 3 * L)) 64 (nF (bnT L))] := hD
  refine lv_aload_n hx hb dX1_dropCrumbs_4 rfl (lv_at hl 0 rfl) ?_
  refine lv_iload_n hx hb dX1_dropCrumbs_5 rfl (lv_at hl 1 rfl) ?_
  refine fin_i (ws' := (fun (u_2 : Nat → Int32) => [oC h ad sn hsh, oX (ad 1) 1 [.ref (ad 11), .int (nI L), .int stp, .int why], aI G (ad 11) 64 st, oX (ad 3) 5 [.ref (ad 12)], aI G (ad 12) 8 u_2, aI G (ad 6) 64 (splitP st L), aI G (ad 7) 64 (drpA L t (splitP st L)), aR G (ad 2) 3 (orF ad), oX (ad (15 + L)) 2 [.ref (ad (16 + 3 * L)), .ref (ad (17 + 3 * L)), .ref (ad (18 + 3 * L)), .int (nI 64)], aI G (ad (18 + 3 * L)) 64 (nF (bnT L))])) hA hS hP hD [0, 1, 2, 3, 4, 5, 6, 7, 8, 9] rfl [(true, 0), (true, 1), (true, 2), (true, 3), (true, 4), (true, 5), (true, 6), (true, 7), (true, 8), (true, 9)] (fun _ => rfl) (by decide) (run_V (As := [.int t]) (rest := []) (n9 := 1) hx hb hml hown hts hE hAb hl.1 hS hP hD [0, 1, 2, 3, 4, 5, 6, 7, 8, 9] rfl (by decide) (t_X1_drop l G b0 _ h ad sn hsh L stp why st li pa ot t (by omega) (by omega)) (lw_V q1231 q1233 qs37 q106 q1234) 0 rfl rfl ⟨rfl, by decide, by decide, by decide +kernel⟩ ⟨Nat.le_of_ble_eq_true rfl, Nat.le_of_ble_eq_true rfl⟩ ⟨by first | exact Nat.le_of_ble_eq_true rfl | (simp only [rm_X1_dropCrumbs_s, rm_X1_drop, rm_X1_needShade_t]; omega), by first | exact Nat.le_of_ble_eq_true rfl | (simp only [rm_X1_dropCrumbs_s, rm_X1_drop, rm_X1_needShade_t]; omega)⟩ dX1_dropCrumbs_6 (Nat.le_of_ble_eq_true rfl) rfl rfl) (fun r_2 u_2 H locs h_2 hP hD hS => ?_)
  have hP : va_P G.1 vwCl [oC h ad sn hsh, oX (ad 1) 1 [.ref (ad 11), .int (nI L), .int stp, .int why], aI G (ad 11) 64 st, oX (ad 3) 5 [.ref (ad 12)], aI G (ad 12) 8 u_2, aI G (ad 6) 64 (splitP st L), aI G (ad 7) 64 (drpA L t (splitP st L)), aR G (ad 2) 3 (orF ad), oX (ad (15 + L)) 2 [.ref (ad (16 + 3 * L)), .ref (ad (17 + 3 * L)), .ref (ad (18 + 3 * L)), .int (nI 64)], aI G (ad (18 + 3 * L)) 64 (nF (bnT L))] _ := hP
  have hD : va_D A [oC h ad sn hsh, oX (ad 1) 1 [.ref (ad 11), .int (nI L), .int stp, .int why], aI G (ad 11) 64 st, oX (ad 3) 5 [.ref (ad 12)], aI G (ad 12) 8 u_2, aI G (ad 6) 64 (splitP st L), aI G (ad 7) 64 (drpA L t (splitP st L)), aR G (ad 2) 3 (orF ad), oX (ad (15 + L)) 2 [.ref (ad (16 + 3 * L)), .ref (ad (17 + 3 * L)), .ref (ad (18 + 3 * L)), .int (nI 64)], aI G (ad (18 + 3 * L)) 64 (nF (bnT L))] := hD
  have h_2 : r_2 = (nI (cntN (crmB L t (splitP st L)) 64)) := h_2
  rw [h_2]
  refine lv_istore_n (lv' := [(2, .int (nI (cntN (crmB L t (splitP st L)) 64))), (0, .ref h), (1, .int t)]) hx hb dX1_dropCrumbs_9 rfl hl (by decide) rfl (fun ls hl => ?_)
  have hcl9 := cntN_le (crmB L t (splitP st L)) 64
  refine lv_iload_n hx hb dX1_dropCrumbs_10 rfl (lv_at hl 0 rfl) ?_
  refine N_if_le (tgt := 18) hx hb dX1_dropCrumbs_11 (by decide) (by omega) (fun c_11 => ?_) (fun c_11 => ?_)
  · skip
    refine lv_iconst (v := nI 0) hx hb dX1_dropCrumbs_18 (by decide) ?_
    refine W.eq (g2 := F0 m 19 ls [.int (bI false)]) rfl ?_
    have hF_3 := fr_free (wc := []) [] rfl hA hS hD
    refine fin_x (ws' := (fun (_ : Unit) => [oC h ad sn hsh, oX (ad 1) 1 [.ref (ad 11), .int (nI L), .int stp, .int why], aI G (ad 11) 64 st, oX (ad 3) 5 [.ref (ad 12)], aI G (ad 12) 8 u_2, aI G (ad 6) 64 (splitP st L), aI G (ad 7) 64 (drpA L t (splitP st L)), aR G (ad 2) 3 (orF ad), oX (ad (15 + L)) 2 [.ref (ad (16 + 3 * L)), .ref (ad (17 + 3 * L)), .ref (ad (18 + 3 * L)), .int (nI 64)], aI G (ad (18 + 3 * L)) 64 (nF (bnT L))])) hS hF_3 (run_SX (As := [.int (bI false)]) (rest := []) (n9 := 1) hx hb hml hown hts hE hAb hl.1 hS hP hD [] rfl (by decide) (t_X1_needState_f l G b0 _  (by omega)) (lw_S q1392 q1393 q106 q1394) ⟨by decide, by decide, by decide +kernel⟩ ⟨Nat.le_of_ble_eq_true rfl, Nat.le_of_ble_eq_true rfl⟩ ⟨by first | exact Nat.le_of_ble_eq_true rfl | (simp only [rm_X1_dropCrumbs_s, rm_X1_needState_f, rm_X1_needShade_t, rm_X1_drop]; omega), by first | exact Nat.le_of_ble_eq_true rfl | (simp only [rm_X1_dropCrumbs_s, rm_X1_needState_f, rm_X1_needShade_t, rm_X1_drop]; omega)⟩ dX1_dropCrumbs_19 (Nat.le_of_ble_eq_true rfl) rfl rfl) (fun _ H1_ hk_ hp_ hd_ => fr_sel (ws := [oC h ad sn hsh, oX (ad 1) 1 [.ref (ad 11), .int (nI L), .int stp, .int why], aI G (ad 11) 64 st, oX (ad 3) 5 [.ref (ad 12)], aI G (ad 12) 8 u_2, aI G (ad 6) 64 (splitP st L), aI G (ad 7) 64 (drpA L t (splitP st L)), aR G (ad 2) 3 (orF ad), oX (ad (15 + L)) 2 [.ref (ad (16 + 3 * L)), .ref (ad (17 + 3 * L)), .ref (ad (18 + 3 * L)), .int (nI 64)], aI G (ad (18 + 3 * L)) 64 (nF (bnT L))]) (wc := []) (ws' := [oC h ad sn hsh, oX (ad 1) 1 [.ref (ad 11), .int (nI L), .int stp, .int why], aI G (ad 11) 64 st, oX (ad 3) 5 [.ref (ad 12)], aI G (ad 12) 8 u_2, aI G (ad 6) 64 (splitP st L), aI G (ad 7) 64 (drpA L t (splitP st L)), aR G (ad 2) 3 (orF ad), oX (ad (15 + L)) 2 [.ref (ad (16 + 3 * L)), .ref (ad (17 + 3 * L)), .ref (ad (18 + 3 * L)), .int (nI 64)], aI G (ad (18 + 3 * L)) 64 (nF (bnT L))]) [] [(false, 0), (false, 1), (false, 2), (false, 3), (false, 4), (false, 5), (false, 6), (false, 7), (false, 8), (false, 9)] rfl rfl (by decide) hP hD hk_ hF_3 hp_ hd_) (fun ce9 q9 u_3 H locs h_3 hP hD hS hce9 hcv9 hcl9 => ?_)
    have hP : va_P G.1 vwCl [oC h ad sn hsh, oX (ad 1) 1 [.ref (ad 11), .int (nI L), .int stp, .int why], aI G (ad 11) 64 st, oX (ad 3) 5 [.ref (ad 12)], aI G (ad 12) 8 u_2, aI G (ad 6) 64 (splitP st L), aI G (ad 7) 64 (drpA L t (splitP st L)), aR G (ad 2) 3 (orF ad), oX (ad (15 + L)) 2 [.ref (ad (16 + 3 * L)), .ref (ad (17 + 3 * L)), .ref (ad (18 + 3 * L)), .int (nI 64)], aI G (ad (18 + 3 * L)) 64 (nF (bnT L))] _ := hP
    have hD : va_D A [oC h ad sn hsh, oX (ad 1) 1 [.ref (ad 11), .int (nI L), .int stp, .int why], aI G (ad 11) 64 st, oX (ad 3) 5 [.ref (ad 12)], aI G (ad 12) 8 u_2, aI G (ad 6) 64 (splitP st L), aI G (ad 7) 64 (drpA L t (splitP st L)), aR G (ad 2) 3 (orF ad), oX (ad (15 + L)) 2 [.ref (ad (16 + 3 * L)), .ref (ad (17 + 3 * L)), .ref (ad (18 + 3 * L)), .int (nI 64)], aI G (ad (18 + 3 * L)) 64 (nF (bnT L))] := hD
    rw [hQQ]
    exact rt_x hexT hlk u_2 hP hD hS hce9 hcv9 hcl9 (by first | exact Nat.le_of_ble_eq_true rfl | (simp only [rm_X1_dropCrumbs_s, rm_X1_needShade_t, rm_X1_drop, rm_X1_needState_f]; omega) | omega) (by first | exact Nat.le_of_ble_eq_true rfl | (simp only [rm_X1_dropCrumbs_s, rm_X1_needShade_t, rm_X1_drop, rm_X1_needState_f]; omega) | omega) trivial
  · skip
    exfalso; omega
def rm_X1_append_a : Room := ({ frames := 10, cells := 1, slots := 6, locals := 160 } : Room)
set_option maxHeartbeats 400000 in
set_option maxRecDepth 100000 in
theorem t_X1_append_a (l : Launch) (G : GG) (b0 sz : Nat) (h : Nat) (ad : Nat → Nat) (sn : Value) (hsh : Int64) (t : Int32) (htr : l.stackTraces = false) (htt : inB t (nI 33) (nI 126) = false) : CTX l yX1_append cX1_append 2 (some FieldType.int) (rm_X1_append_a) G b0 [.ref h, .int t] [oC h ad sn hsh] sz "java/lang/IllegalArgumentException" (fun (_ : Unit) => True) (fun (_ : Unit) => [oC h ad sn hsh]) := by
  refine CTX.go (by decide) (Nat.le_of_ble_eq_true rfl) (fun p e s m below meth c A ls AR QQ hx hb hr hlk hml hown hnm hts hE hA hAb hsz hP hD hS hl hexT hQQ => ?_)
  have hK := hE.1
  have hown : s.vm.findClass RX1 = some m.cls := hown
  have hl : lv_has ls 2 [(0, .ref h), (1, .int t)] := hl
  clear hsz
  refine lv_iload_n hx hb dX1_append_0 rfl (lv_at hl 1 rfl) ?_
  refine lv_bipush (v := nI 33) hx hb dX1_append_1 (by decide) ?_
  refine lv_bipush (v := nI 126) hx hb dX1_append_3 (by decide) ?_
  refine fin_i (ws' := (fun (_ : Unit) => [oC h ad sn hsh])) hA hS hP hD [] rfl [(false, 0)] (fun _ => rfl) (by decide) (run_S (As := [.int t, .int (nI 33), .int (nI 126)]) (rest := []) (n9 := 3) hx hb hml hown hts hE hAb hl.1 hS hP hD [] rfl (by decide) (t_X1_in l G b0 _ t (nI 33) (nI 126) ) (lw_S q1363 q1019 q106 q1020) ⟨by decide, by decide, by decide +kernel⟩ ⟨Nat.le_of_ble_eq_true rfl, Nat.le_of_ble_eq_true rfl⟩ ⟨by first | exact Nat.le_of_ble_eq_true rfl | (simp only [rm_X1_append_a, rm_X1_in]; omega), by first | exact Nat.le_of_ble_eq_true rfl | (simp only [rm_X1_append_a, rm_X1_in]; omega)⟩ dX1_append_5 (Nat.le_of_ble_eq_true rfl) rfl rfl) (fun r_1 u_1 H locs h_1 hP hD hS => ?_)
  have hP : va_P G.1 vwCl [oC h ad sn hsh] _ := hP
  have hD : va_D A [oC h ad sn hsh] := hD
  have h_1 : r_1 = (bI (inB t (nI 33) (nI 126))) := h_1
  rw [h_1]
  refine W.eq (g2 := F0 m 8 ls [.int (bI false)]) (by rw [htt]) ?_
  have hF_2 := fr_free (wc := []) [] rfl hA hS hD
  refine fin_x (ws' := (fun (_ : Unit) => [oC h ad sn hsh])) hS hF_2 (run_SX (As := [.int (bI false)]) (rest := []) (n9 := 1) hx hb hml hown hts hE hAb hl.1 hS hP hD [] rfl (by decide) (t_X1_need_f l G b0 _  (by omega)) (lw_S q1375 q1376 q106 q1377) ⟨by decide, by decide, by decide +kernel⟩ ⟨Nat.le_of_ble_eq_true rfl, Nat.le_of_ble_eq_true rfl⟩ ⟨by first | exact Nat.le_of_ble_eq_true rfl | (simp only [rm_X1_append_a, rm_X1_need_f, rm_X1_in]; omega), by first | exact Nat.le_of_ble_eq_true rfl | (simp only [rm_X1_append_a, rm_X1_need_f, rm_X1_in]; omega)⟩ dX1_append_8 (Nat.le_of_ble_eq_true rfl) rfl rfl) (fun _ H1_ hk_ hp_ hd_ => fr_sel (ws := [oC h ad sn hsh]) (wc := []) (ws' := [oC h ad sn hsh]) [] [(false, 0)] rfl rfl (by decide) hP hD hk_ hF_2 hp_ hd_) (fun ce9 q9 u_2 H locs h_2 hP hD hS hce9 hcv9 hcl9 => ?_)
  have hP : va_P G.1 vwCl [oC h ad sn hsh] _ := hP
  have hD : va_D A [oC h ad sn hsh] := hD
  rw [hQQ]
  exact rt_x hexT hlk (()) hP hD hS hce9 hcv9 hcl9 (by first | exact Nat.le_of_ble_eq_true rfl | (simp only [rm_X1_append_a, rm_X1_in, rm_X1_need_f]; omega) | omega) (by first | exact Nat.le_of_ble_eq_true rfl | (simp only [rm_X1_append_a, rm_X1_in, rm_X1_need_f]; omega) | omega) trivial
def rm_X1_append_s : Room := ({ frames := 10, cells := 1, slots := 6, locals := 160 } : Room)
set_option maxHeartbeats 400000 in
set_option maxRecDepth 100000 in
theorem t_X1_append_s (l : Launch) (G : GG) (b0 sz : Nat) (h : Nat) (ad : Nat → Nat) (sn : Value) (hsh : Int64) (cd : Nat) (ml : Bool) (ch : Nat → Nat) (len : Nat) (htr : l.stackTraces = false) (hcd : 33 ≤ cd ∧ cd ≤ 126) (hln : len = 60) : CTX l yX1_append cX1_append 2 (some FieldType.int) (rm_X1_append_s) G b0 [.ref h, .int (nI cd)] [oC h ad sn hsh, oX (ad 10) 12 [.ref (ad 28), .int (nI 0), .int (bI ml), .int (nI len)], aB G (ad 28) 60 (nF ch)] sz "java/lang/IllegalStateException" (fun (_ : Unit) => True) (fun (_ : Unit) => [oC h ad sn hsh, oX (ad 10) 12 [.ref (ad 28), .int (nI 0), .int (bI ml), .int (nI len)], aB G (ad 28) 60 (nF ch)]) := by
  refine CTX.go (by decide) (Nat.le_of_ble_eq_true rfl) (fun p e s m below meth c A ls AR QQ hx hb hr hlk hml hown hnm hts hE hA hAb hsz hP hD hS hl hexT hQQ => ?_)
  have hK := hE.1
  have hown : s.vm.findClass RX1 = some m.cls := hown
  have hl : lv_has ls 2 [(0, .ref h), (1, .int (nI cd))] := hl
  clear hsz
  refine lv_iload_n hx hb dX1_append_0 rfl (lv_at hl 1 rfl) ?_
  refine lv_bipush (v := nI 33) hx hb dX1_append_1 (by decide) ?_
  refine lv_bipush (v := nI 126) hx hb dX1_append_3 (by decide) ?_
  refine fin_i (ws' := (fun (_ : Unit) => [oC h ad sn hsh, oX (ad 10) 12 [.ref (ad 28), .int (nI 0), .int (bI ml), .int (nI len)], aB G (ad 28) 60 (nF ch)])) hA hS hP hD [] rfl [(false, 0), (false, 1), (false, 2)] (fun _ => rfl) (by decide) (run_S (As := [.int (nI cd), .int (nI 33), .int (nI 126)]) (rest := []) (n9 := 3) hx hb hml hown hts hE hAb hl.1 hS hP hD [] rfl (by decide) (t_X1_in l G b0 _ (nI cd) (nI 33) (nI 126) ) (lw_S q1363 q1019 q106 q1020) ⟨by decide, by decide, by decide +kernel⟩ ⟨Nat.le_of_ble_eq_true rfl, Nat.le_of_ble_eq_true rfl⟩ ⟨by first | exact Nat.le_of_ble_eq_true rfl | (simp only [rm_X1_append_s, rm_X1_in]; omega), by first | exact Nat.le_of_ble_eq_true rfl | (simp only [rm_X1_append_s, rm_X1_in]; omega)⟩ dX1_append_5 (Nat.le_of_ble_eq_true rfl) rfl rfl) (fun r_1 u_1 H locs h_1 hP hD hS => ?_)
  have hP : va_P G.1 vwCl [oC h ad sn hsh, oX (ad 10) 12 [.ref (ad 28), .int (nI 0), .int (bI ml), .int (nI len)], aB G (ad 28) 60 (nF ch)] _ := hP
  have hD : va_D A [oC h ad sn hsh, oX (ad 10) 12 [.ref (ad 28), .int (nI 0), .int (bI ml), .int (nI len)], aB G (ad 28) 60 (nF ch)] := hD
  have h_1 : r_1 = (bI (inB (nI cd) (nI 33) (nI 126))) := h_1
  rw [h_1]
  refine W.eq (g2 := F0 m 8 ls [.int (bI true)]) (by rw [show inB (nI cd) (nI 33) (nI 126) = true by rw [inB_nat (by omega) (by decide) (by decide)]; exact decide_eq_true (by omega)]) ?_
  refine fin_v (ws' := (fun (_ : Unit) => [oC h ad sn hsh, oX (ad 10) 12 [.ref (ad 28), .int (nI 0), .int (bI ml), .int (nI len)], aB G (ad 28) 60 (nF ch)])) hA hS hP hD [] rfl [(false, 0), (false, 1), (false, 2)] (fun _ => rfl) (by decide) (run_S (As := [.int (bI true)]) (rest := []) (n9 := 1) hx hb hml hown hts hE hAb hl.1 hS hP hD [] rfl (by decide) (t_X1_need_t l G b0 _  ) (lw_S q1375 q1376 q106 q1377) ⟨by decide, by decide, by decide +kernel⟩ ⟨Nat.le_of_ble_eq_true rfl, Nat.le_of_ble_eq_true rfl⟩ ⟨by first | exact Nat.le_of_ble_eq_true rfl | (simp only [rm_X1_append_s, rm_X1_need_t, rm_X1_in]; omega), by first | exact Nat.le_of_ble_eq_true rfl | (simp only [rm_X1_append_s, rm_X1_need_t, rm_X1_in]; omega)⟩ dX1_append_8 (Nat.le_of_ble_eq_true rfl) rfl rfl) (fun u_2 H locs h_2 hP hD hS => ?_)
  have hP : va_P G.1 vwCl [oC h ad sn hsh, oX (ad 10) 12 [.ref (ad 28), .int (nI 0), .int (bI ml), .int (nI len)], aB G (ad 28) 60 (nF ch)] _ := hP
  have hD : va_D A [oC h ad sn hsh, oX (ad 10) 12 [.ref (ad 28), .int (nI 0), .int (bI ml), .int (nI len)], aB G (ad 28) 60 (nF ch)] := hD
  refine lv_aload_n hx hb dX1_append_11 rfl (lv_at hl 0 rfl) ?_
  refine va_get (D := G.1) (ci := 0) (v := .ref (ad 10)) (C := RX1) (T := TX1) (N := 12) hx hb hts in_X1 hown hK hP 0 rfl rfl 10 (by decide) (hts _ q505) (fun _ h9 => h9) rfl dX1_append_12 ?_
  refine fin_i (ws' := (fun (_ : Unit) => [oC h ad sn hsh, oX (ad 10) 12 [.ref (ad 28), .int (nI 0), .int (bI ml), .int (nI len)], aB G (ad 28) 60 (nF ch)])) hA hS hP hD [1, 2] rfl [(false, 0), (true, 0), (true, 1)] (fun _ => rfl) (by decide) (run_V (As := []) (rest := []) (n9 := 0) hx hb hml hown hts hE hAb hl.1 hS hP hD [1, 2] rfl (by decide) (t_J11_length l G b0 _ (ad 10) (ad 28) len ml ch ) (lw_V q664 q665 q666 q126 q667) 1 rfl rfl ⟨rfl, by decide, by decide, by decide +kernel⟩ ⟨Nat.le_of_ble_eq_true rfl, Nat.le_of_ble_eq_true rfl⟩ ⟨by first | exact Nat.le_of_ble_eq_true rfl | (simp only [rm_X1_append_s, rm_J11_length, rm_X1_in, rm_X1_need_t]; omega), by first | exact Nat.le_of_ble_eq_true rfl | (simp only [rm_X1_append_s, rm_J11_length, rm_X1_in, rm_X1_need_t]; omega)⟩ dX1_append_15 (Nat.le_of_ble_eq_true rfl) rfl rfl) (fun r_3 u_3 H locs h_3 hP hD hS => ?_)
  have hP : va_P G.1 vwCl [oC h ad sn hsh, oX (ad 10) 12 [.ref (ad 28), .int (nI 0), .int (bI ml), .int (nI len)], aB G (ad 28) 60 (nF ch)] _ := hP
  have hD : va_D A [oC h ad sn hsh, oX (ad 10) 12 [.ref (ad 28), .int (nI 0), .int (bI ml), .int (nI len)], aB G (ad 28) 60 (nF ch)] := hD
  have h_3 : r_3 = (nI len) := h_3
  rw [h_3]
  refine lv_bipush (v := nI 60) hx hb dX1_append_18 (by decide) ?_
  refine N_icmp_ge (tgt := 27) hx hb dX1_append_20 (by decide) (by omega) (by omega) (fun c_20 => ?_) (fun c_20 => ?_)
  · skip
    refine lv_iconst (v := nI 0) hx hb dX1_append_27 (by decide) ?_
    refine W.eq (g2 := F0 m 28 ls [.int (bI false)]) rfl ?_
    have hF_4 := fr_free (wc := []) [] rfl hA hS hD
    refine fin_x (ws' := (fun (_ : Unit) => [oC h ad sn hsh, oX (ad 10) 12 [.ref (ad 28), .int (nI 0), .int (bI ml), .int (nI len)], aB G (ad 28) 60 (nF ch)])) hS hF_4 (run_SX (As := [.int (bI false)]) (rest := []) (n9 := 1) hx hb hml hown hts hE hAb hl.1 hS hP hD [] rfl (by decide) (t_X1_needState_f l G b0 _  (by omega)) (lw_S q1392 q1393 q106 q1394) ⟨by decide, by decide, by decide +kernel⟩ ⟨Nat.le_of_ble_eq_true rfl, Nat.le_of_ble_eq_true rfl⟩ ⟨by first | exact Nat.le_of_ble_eq_true rfl | (simp only [rm_X1_append_s, rm_X1_needState_f, rm_X1_in, rm_X1_need_t, rm_J11_length]; omega), by first | exact Nat.le_of_ble_eq_true rfl | (simp only [rm_X1_append_s, rm_X1_needState_f, rm_X1_in, rm_X1_need_t, rm_J11_length]; omega)⟩ dX1_append_28 (Nat.le_of_ble_eq_true rfl) rfl rfl) (fun _ H1_ hk_ hp_ hd_ => fr_sel (ws := [oC h ad sn hsh, oX (ad 10) 12 [.ref (ad 28), .int (nI 0), .int (bI ml), .int (nI len)], aB G (ad 28) 60 (nF ch)]) (wc := []) (ws' := [oC h ad sn hsh, oX (ad 10) 12 [.ref (ad 28), .int (nI 0), .int (bI ml), .int (nI len)], aB G (ad 28) 60 (nF ch)]) [] [(false, 0), (false, 1), (false, 2)] rfl rfl (by decide) hP hD hk_ hF_4 hp_ hd_) (fun ce9 q9 u_4 H locs h_4 hP hD hS hce9 hcv9 hcl9 => ?_)
    have hP : va_P G.1 vwCl [oC h ad sn hsh, oX (ad 10) 12 [.ref (ad 28), .int (nI 0), .int (bI ml), .int (nI len)], aB G (ad 28) 60 (nF ch)] _ := hP
    have hD : va_D A [oC h ad sn hsh, oX (ad 10) 12 [.ref (ad 28), .int (nI 0), .int (bI ml), .int (nI len)], aB G (ad 28) 60 (nF ch)] := hD
    rw [hQQ]
    exact rt_x hexT hlk (()) hP hD hS hce9 hcv9 hcl9 (by first | exact Nat.le_of_ble_eq_true rfl | (simp only [rm_X1_append_s, rm_X1_in, rm_X1_need_t, rm_J11_length, rm_X1_needState_f]; omega) | omega) (by first | exact Nat.le_of_ble_eq_true rfl | (simp only [rm_X1_append_s, rm_X1_in, rm_X1_need_t, rm_J11_length, rm_X1_needState_f]; omega) | omega) trivial
  · skip
    exfalso; omega
def rm_X1_work_a : Room := ({ frames := 10, cells := 3, slots := 256, locals := 341 } : Room)
set_option maxHeartbeats 400000 in
set_option maxRecDepth 100000 in
theorem t_X1_work_a (l : Launch) (G : GG) (b0 sz : Nat) (h : Nat) (ad : Nat → Nat) (sn : Value) (hsh : Int64) (len : Nat) (ml : Bool) (ch : Nat → Nat) (htr : l.stackTraces = false) (hle : len ≤ 60) (hch : ∀ j, j < len → ch j ≤ 126) (hpr : (prR ch len).1 = false) : CTX l yX1_work cX1_work 4 (some FieldType.int) (rm_X1_work_a) G b0 [.ref h] [oC h ad sn hsh, oX (ad 10) 12 [.ref (ad 28), .int (nI 0), .int (bI ml), .int (nI len)], aB G (ad 28) 60 (nF ch)] sz "java/lang/IllegalArgumentException" (fun (_ : Unit) => True) (fun (_ : Unit) => [oC h ad sn hsh, oX (ad 10) 12 [.ref (ad 28), .int (nI 0), .int (bI ml), .int (nI len)], aB G (ad 28) 60 (nF ch)]) := by
  refine CTX.go (by decide) (Nat.le_of_ble_eq_true rfl) (fun p e s m below meth c A ls AR QQ hx hb hr hlk hml hown hnm hts hE hA hAb hsz hP hD hS hl hexT hQQ => ?_)
  have hK := hE.1
  have hown : s.vm.findClass RX1 = some m.cls := hown
  have hl : lv_has ls 4 [(0, .ref h)] := hl
  clear hsz
  refine va_new (ci := 9) (fs := [.null, .int (nI 0), .int (nI 0), .null]) (C := RX10) (T := TX10) (N := 4) hx hb hts in_X10 tyX10 tyX10_ok hown (hts _ q954) (hts _ q955) (hts _ q142) hK hP hD hS hA rfl (fun j hj => by rcases (show j = 0 ∨ j = 1 ∨ j = 2 ∨ j = 3 by omega) with rfl | rfl | rfl | rfl <;> rfl) (by first | exact Nat.le_of_ble_eq_true rfl | omega) (by first | exact Nat.le_of_ble_eq_true rfl | omega) dX1_work_0 (fun q1 H hP hD hS => ?_)
  have hP : va_P G.1 vwCl [oC h ad sn hsh, oX (ad 10) 12 [.ref (ad 28), .int (nI 0), .int (bI ml), .int (nI len)], aB G (ad 28) 60 (nF ch), oX q1 9 [.null, .int (nI 0), .int (nI 0), .null]] _ := hP
  have hD : va_D A [oC h ad sn hsh, oX (ad 10) 12 [.ref (ad 28), .int (nI 0), .int (bI ml), .int (nI len)], aB G (ad 28) 60 (nF ch), oX q1 9 [.null, .int (nI 0), .int (nI 0), .null]] := hD
  refine lv_dup hx hb dX1_work_3 rfl ?_
  refine lv_aload_n hx hb dX1_work_4 rfl (lv_at hl 0 rfl) ?_
  refine fin_v (ws' := (fun (u_2 : Nat) => [oC h ad sn hsh, oX (ad 10) 12 [.ref (ad 28), .int (nI 0), .int (bI ml), .int (nI len)], aB G (ad 28) 60 (nF ch), oX q1 9 [.ref u_2, .int (nI 0), .int (nI 0), .ref h], aI G u_2 240 (fun _ => 0)])) hA hS hP hD [3] rfl [(false, 0), (false, 1), (false, 2), (true, 0), (true, 1)] (fun _ => rfl) (by decide) (run_IN (As := [.ref h]) (rest := [.ref q1]) (n9 := 1) (host := "CrumbPictures") hx hb hml hown hts hE hAb hl.1 hS hP hD [3] rfl (by decide) (t_X10_init l G b0 _ q1 h ) (lw_meth q958) q956 q142 q957 rfl ⟨by decide, by decide, by decide +kernel⟩ ⟨Nat.le_of_ble_eq_true rfl, Nat.le_of_ble_eq_true rfl⟩ ⟨by first | exact Nat.le_of_ble_eq_true rfl | (simp only [rm_X1_work_a, rm_X10_init]; omega), by first | exact Nat.le_of_ble_eq_true rfl | (simp only [rm_X1_work_a, rm_X10_init]; omega)⟩ dX1_work_5 (Nat.le_of_ble_eq_true rfl) rfl rfl) (fun u_2 H locs h_2 hP hD hS => ?_)
  have hP : va_P G.1 vwCl [oC h ad sn hsh, oX (ad 10) 12 [.ref (ad 28), .int (nI 0), .int (bI ml), .int (nI len)], aB G (ad 28) 60 (nF ch), oX q1 9 [.ref u_2, .int (nI 0), .int (nI 0), .ref h], aI G u_2 240 (fun _ => 0)] _ := hP
  have hD : va_D A [oC h ad sn hsh, oX (ad 10) 12 [.ref (ad 28), .int (nI 0), .int (bI ml), .int (nI len)], aB G (ad 28) 60 (nF ch), oX q1 9 [.ref u_2, .int (nI 0), .int (nI 0), .ref h], aI G u_2 240 (fun _ => 0)] := hD
  refine lv_astore_n (lv' := [(1, .ref q1), (0, .ref h)]) hx hb dX1_work_8 rfl hl (by decide) rfl (fun ls hl => ?_)
  refine lv_aload_n hx hb dX1_work_9 rfl (lv_at hl 0 rfl) ?_
  refine fin_i (ws' := (fun (u_3 : Nat × (Nat → Int32)) => [oC h ad sn hsh, oX (ad 10) 12 [.ref (ad 28), .int (nI 0), .int (bI ml), .int (nI len)], aB G (ad 28) 60 (nF ch), oX q1 9 [.ref u_2, .int (nI u_3.1), .int (nI ((prR ch len).2.1)), .ref h], aI G u_2 240 u_3.2])) hA hS hP hD [3, 4, 0, 1, 2] rfl [(true, 2), (true, 3), (true, 4), (true, 0), (true, 1)] (fun _ => rfl) (by decide) (run_V (As := []) (rest := []) (n9 := 0) hx hb hml hown hts hE hAb hl.1 hS hP hD [3, 4, 0, 1, 2] rfl (by decide) (t_X10_areWorks l G b0 _ q1 u_2 h len ad sn hsh ml ch (fun _ => 0) (by omega) (by exact hch)) (lw_V q976 q977 q978 q142 q979) 3 rfl rfl ⟨rfl, by decide, by decide, by decide +kernel⟩ ⟨Nat.le_of_ble_eq_true rfl, Nat.le_of_ble_eq_true rfl⟩ ⟨by first | exact Nat.le_of_ble_eq_true rfl | (simp only [rm_X1_work_a, rm_X10_areWorks, rm_X10_init]; omega), by first | exact Nat.le_of_ble_eq_true rfl | (simp only [rm_X1_work_a, rm_X10_areWorks, rm_X10_init]; omega)⟩ dX1_work_10 (Nat.le_of_ble_eq_true rfl) rfl rfl) (fun r_3 u_3 H locs h_3 hP hD hS => ?_)
  have hP : va_P G.1 vwCl [oC h ad sn hsh, oX (ad 10) 12 [.ref (ad 28), .int (nI 0), .int (bI ml), .int (nI len)], aB G (ad 28) 60 (nF ch), oX q1 9 [.ref u_2, .int (nI u_3.1), .int (nI ((prR ch len).2.1)), .ref h], aI G u_2 240 u_3.2] _ := hP
  have hD : va_D A [oC h ad sn hsh, oX (ad 10) 12 [.ref (ad 28), .int (nI 0), .int (bI ml), .int (nI len)], aB G (ad 28) 60 (nF ch), oX q1 9 [.ref u_2, .int (nI u_3.1), .int (nI ((prR ch len).2.1)), .ref h], aI G u_2 240 u_3.2] := hD
  obtain ⟨h_3, f_3⟩ := h_3
  have h_3 : r_3 = (bI ((prR ch len).1)) := h_3
  try rw [h_3] at f_3
  have f_3 : ((prR ch len).1 = true → u_3.1 = (prR ch len).2.2 ∧ fdAll ch len (prR ch len).2.2 u_3.2) := f_3
  rw [h_3]
  refine W.eq (g2 := F0 m 13 ls [.int (bI false)]) (by rw [hpr]) ?_
  have hF_4 := fr_free (wc := []) [] rfl hA hS hD
  refine fin_x (ws' := (fun (_ : Unit) => [oC h ad sn hsh, oX (ad 10) 12 [.ref (ad 28), .int (nI 0), .int (bI ml), .int (nI len)], aB G (ad 28) 60 (nF ch), oX q1 9 [.ref u_2, .int (nI u_3.1), .int (nI ((prR ch len).2.1)), .ref h], aI G u_2 240 u_3.2])) hS hF_4 (run_SX (As := [.int (bI false)]) (rest := []) (n9 := 1) hx hb hml hown hts hE hAb hl.1 hS hP hD [] rfl (by decide) (t_X1_need_f l G b0 _  (by omega)) (lw_S q1375 q1376 q106 q1377) ⟨by decide, by decide, by decide +kernel⟩ ⟨Nat.le_of_ble_eq_true rfl, Nat.le_of_ble_eq_true rfl⟩ ⟨by first | exact Nat.le_of_ble_eq_true rfl | (simp only [rm_X1_work_a, rm_X1_need_f, rm_X10_init, rm_X10_areWorks]; omega), by first | exact Nat.le_of_ble_eq_true rfl | (simp only [rm_X1_work_a, rm_X1_need_f, rm_X10_init, rm_X10_areWorks]; omega)⟩ dX1_work_13 (Nat.le_of_ble_eq_true rfl) rfl rfl) (fun _ H1_ hk_ hp_ hd_ => fr_sel (ws := [oC h ad sn hsh, oX (ad 10) 12 [.ref (ad 28), .int (nI 0), .int (bI ml), .int (nI len)], aB G (ad 28) 60 (nF ch), oX q1 9 [.ref u_2, .int (nI u_3.1), .int (nI ((prR ch len).2.1)), .ref h], aI G u_2 240 u_3.2]) (wc := []) (ws' := [oC h ad sn hsh, oX (ad 10) 12 [.ref (ad 28), .int (nI 0), .int (bI ml), .int (nI len)], aB G (ad 28) 60 (nF ch), oX q1 9 [.ref u_2, .int (nI u_3.1), .int (nI ((prR ch len).2.1)), .ref h], aI G u_2 240 u_3.2]) [] [(false, 0), (false, 1), (false, 2), (false, 3), (false, 4)] rfl rfl (by decide) hP hD hk_ hF_4 hp_ hd_) (fun ce9 q9 u_4 H locs h_4 hP hD hS hce9 hcv9 hcl9 => ?_)
  have hP : va_P G.1 vwCl [oC h ad sn hsh, oX (ad 10) 12 [.ref (ad 28), .int (nI 0), .int (bI ml), .int (nI len)], aB G (ad 28) 60 (nF ch), oX q1 9 [.ref u_2, .int (nI u_3.1), .int (nI ((prR ch len).2.1)), .ref h], aI G u_2 240 u_3.2] _ := hP
  have hD : va_D A [oC h ad sn hsh, oX (ad 10) 12 [.ref (ad 28), .int (nI 0), .int (bI ml), .int (nI len)], aB G (ad 28) 60 (nF ch), oX q1 9 [.ref u_2, .int (nI u_3.1), .int (nI ((prR ch len).2.1)), .ref h], aI G u_2 240 u_3.2] := hD
  have hP : va_P G.1 vwCl [oC h ad sn hsh, oX (ad 10) 12 [.ref (ad 28), .int (nI 0), .int (bI ml), .int (nI len)], aB G (ad 28) 60 (nF ch)] _ := hP.sub [0, 1, 2] rfl
  have hD : va_D A [oC h ad sn hsh, oX (ad 10) 12 [.ref (ad 28), .int (nI 0), .int (bI ml), .int (nI len)], aB G (ad 28) 60 (nF ch)] := hD.sub [0, 1, 2] (by decide) rfl
  rw [hQQ]
  exact rt_x hexT hlk (()) hP hD hS hce9 hcv9 hcl9 (by first | exact Nat.le_of_ble_eq_true rfl | (simp only [rm_X1_work_a, rm_X10_init, rm_X10_areWorks, rm_X1_need_f]; omega) | omega) (by first | exact Nat.le_of_ble_eq_true rfl | (simp only [rm_X1_work_a, rm_X10_init, rm_X10_areWorks, rm_X1_need_f]; omega) | omega) trivial
def rm_X1_stoppedPart_s : Room := ({ frames := 10, cells := 1, slots := 6, locals := 160 } : Room)
set_option maxHeartbeats 400000 in
set_option maxRecDepth 100000 in
theorem t_X1_stoppedPart_s (l : Launch) (G : GG) (b0 sz : Nat) (h : Nat) (ad : Nat → Nat) (sn : Value) (hsh : Int64) (L : Nat) (stp why : Int32) (htr : l.stackTraces = false) (hs : stp = (-1)) : CTX l yX1_stoppedPart cX1_stoppedPart 1 (some FieldType.int) (rm_X1_stoppedPart_s) G b0 [.ref h] [oC h ad sn hsh, oX (ad 1) 1 [.ref (ad 11), .int (nI L), .int stp, .int why]] sz "java/lang/IllegalStateException" (fun (_ : Unit) => True) (fun (_ : Unit) => [oC h ad sn hsh, oX (ad 1) 1 [.ref (ad 11), .int (nI L), .int stp, .int why]]) := by
  refine CTX.go (by decide) (Nat.le_of_ble_eq_true rfl) (fun p e s m below meth c A ls AR QQ hx hb hr hlk hml hown hnm hts hE hA hAb hsz hP hD hS hl hexT hQQ => ?_)
  have hK := hE.1
  have hown : s.vm.findClass RX1 = some m.cls := hown
  have hl : lv_has ls 1 [(0, .ref h)] := hl
  clear hsz
  refine lv_aload_n hx hb dX1_stoppedPart_0 rfl (lv_at hl 0 rfl) ?_
  refine va_get (D := G.1) (ci := 0) (v := .ref (ad 1)) (C := RX1) (T := TX1) (N := 12) hx hb hts in_X1 hown hK hP 0 rfl rfl 0 (by decide) (hts _ q494) (fun _ h9 => h9) rfl dX1_stoppedPart_1 ?_
  refine va_getN (D := G.1) (ci := 1) (v := .int stp) (C := RX2) (T := TX2) (N := 4) hx hb hts in_X2 hown hK hP 1 rfl rfl 2 (by decide) (hE.nb q163 rfl) (fun _ h9 => h9) rfl dX1_stoppedPart_4 ?_
  refine lv_iconst (v := (-1)) hx hb dX1_stoppedPart_7 (by decide) ?_
  refine lv_icmp_eq (tgt := 15) hx hb dX1_stoppedPart_8 (by decide) (fun c_8 => ?_) (fun c_8 => ?_)
  · skip
    refine lv_iconst (v := nI 0) hx hb dX1_stoppedPart_15 (by decide) ?_
    refine W.eq (g2 := F0 m 16 ls [.int (bI false)]) rfl ?_
    have hF_1 := fr_free (wc := []) [] rfl hA hS hD
    refine fin_x (ws' := (fun (_ : Unit) => [oC h ad sn hsh, oX (ad 1) 1 [.ref (ad 11), .int (nI L), .int stp, .int why]])) hS hF_1 (run_SX (As := [.int (bI false)]) (rest := []) (n9 := 1) hx hb hml hown hts hE hAb hl.1 hS hP hD [] rfl (by decide) (t_X1_needState_f l G b0 _  (by omega)) (lw_S q1392 q1393 q106 q1394) ⟨by decide, by decide, by decide +kernel⟩ ⟨Nat.le_of_ble_eq_true rfl, Nat.le_of_ble_eq_true rfl⟩ ⟨by first | exact Nat.le_of_ble_eq_true rfl | (simp only [rm_X1_stoppedPart_s, rm_X1_needState_f]; omega), by first | exact Nat.le_of_ble_eq_true rfl | (simp only [rm_X1_stoppedPart_s, rm_X1_needState_f]; omega)⟩ dX1_stoppedPart_16 (Nat.le_of_ble_eq_true rfl) rfl rfl) (fun _ H1_ hk_ hp_ hd_ => fr_sel (ws := [oC h ad sn hsh, oX (ad 1) 1 [.ref (ad 11), .int (nI L), .int stp, .int why]]) (wc := []) (ws' := [oC h ad sn hsh, oX (ad 1) 1 [.ref (ad 11), .int (nI L), .int stp, .int why]]) [] [(false, 0), (false, 1)] rfl rfl (by decide) hP hD hk_ hF_1 hp_ hd_) (fun ce9 q9 u_1 H locs h_1 hP hD hS hce9 hcv9 hcl9 => ?_)
    have hP : va_P G.1 vwCl [oC h ad sn hsh, oX (ad 1) 1 [.ref (ad 11), .int (nI L), .int stp, .int why]] _ := hP
    have hD : va_D A [oC h ad sn hsh, oX (ad 1) 1 [.ref (ad 11), .int (nI L), .int stp, .int why]] := hD
    rw [hQQ]
    exact rt_x hexT hlk (()) hP hD hS hce9 hcv9 hcl9 (by first | exact Nat.le_of_ble_eq_true rfl | (simp only [rm_X1_stoppedPart_s, rm_X1_needState_f]; omega) | omega) (by first | exact Nat.le_of_ble_eq_true rfl | (simp only [rm_X1_stoppedPart_s, rm_X1_needState_f]; omega) | omega) trivial
  · skip
    exfalso; exact c_8 hs
def rm_X1_whyStopped_s : Room := ({ frames := 10, cells := 1, slots := 6, locals := 160 } : Room)
set_option maxHeartbeats 400000 in
set_option maxRecDepth 100000 in
theorem t_X1_whyStopped_s (l : Launch) (G : GG) (b0 sz : Nat) (h : Nat) (ad : Nat → Nat) (sn : Value) (hsh : Int64) (L : Nat) (stp why : Int32) (htr : l.stackTraces = false) (hs : stp = (-1)) : CTX l yX1_whyStopped cX1_whyStopped 1 (some FieldType.int) (rm_X1_whyStopped_s) G b0 [.ref h] [oC h ad sn hsh, oX (ad 1) 1 [.ref (ad 11), .int (nI L), .int stp, .int why]] sz "java/lang/IllegalStateException" (fun (_ : Unit) => True) (fun (_ : Unit) => [oC h ad sn hsh, oX (ad 1) 1 [.ref (ad 11), .int (nI L), .int stp, .int why]]) := by
  refine CTX.go (by decide) (Nat.le_of_ble_eq_true rfl) (fun p e s m below meth c A ls AR QQ hx hb hr hlk hml hown hnm hts hE hA hAb hsz hP hD hS hl hexT hQQ => ?_)
  have hK := hE.1
  have hown : s.vm.findClass RX1 = some m.cls := hown
  have hl : lv_has ls 1 [(0, .ref h)] := hl
  clear hsz
  refine lv_aload_n hx hb dX1_whyStopped_0 rfl (lv_at hl 0 rfl) ?_
  refine va_get (D := G.1) (ci := 0) (v := .ref (ad 1)) (C := RX1) (T := TX1) (N := 12) hx hb hts in_X1 hown hK hP 0 rfl rfl 0 (by decide) (hts _ q494) (fun _ h9 => h9) rfl dX1_whyStopped_1 ?_
  refine va_getN (D := G.1) (ci := 1) (v := .int stp) (C := RX2) (T := TX2) (N := 4) hx hb hts in_X2 hown hK hP 1 rfl rfl 2 (by decide) (hE.nb q163 rfl) (fun _ h9 => h9) rfl dX1_whyStopped_4 ?_
  refine lv_iconst (v := (-1)) hx hb dX1_whyStopped_7 (by decide) ?_
  refine lv_icmp_eq (tgt := 15) hx hb dX1_whyStopped_8 (by decide) (fun c_8 => ?_) (fun c_8 => ?_)
  · skip
    refine lv_iconst (v := nI 0) hx hb dX1_whyStopped_15 (by decide) ?_
    refine W.eq (g2 := F0 m 16 ls [.int (bI false)]) rfl ?_
    have hF_1 := fr_free (wc := []) [] rfl hA hS hD
    refine fin_x (ws' := (fun (_ : Unit) => [oC h ad sn hsh, oX (ad 1) 1 [.ref (ad 11), .int (nI L), .int stp, .int why]])) hS hF_1 (run_SX (As := [.int (bI false)]) (rest := []) (n9 := 1) hx hb hml hown hts hE hAb hl.1 hS hP hD [] rfl (by decide) (t_X1_needState_f l G b0 _  (by omega)) (lw_S q1392 q1393 q106 q1394) ⟨by decide, by decide, by decide +kernel⟩ ⟨Nat.le_of_ble_eq_true rfl, Nat.le_of_ble_eq_true rfl⟩ ⟨by first | exact Nat.le_of_ble_eq_true rfl | (simp only [rm_X1_whyStopped_s, rm_X1_needState_f]; omega), by first | exact Nat.le_of_ble_eq_true rfl | (simp only [rm_X1_whyStopped_s, rm_X1_needState_f]; omega)⟩ dX1_whyStopped_16 (Nat.le_of_ble_eq_true rfl) rfl rfl) (fun _ H1_ hk_ hp_ hd_ => fr_sel (ws := [oC h ad sn hsh, oX (ad 1) 1 [.ref (ad 11), .int (nI L), .int stp, .int why]]) (wc := []) (ws' := [oC h ad sn hsh, oX (ad 1) 1 [.ref (ad 11), .int (nI L), .int stp, .int why]]) [] [(false, 0), (false, 1)] rfl rfl (by decide) hP hD hk_ hF_1 hp_ hd_) (fun ce9 q9 u_1 H locs h_1 hP hD hS hce9 hcv9 hcl9 => ?_)
    have hP : va_P G.1 vwCl [oC h ad sn hsh, oX (ad 1) 1 [.ref (ad 11), .int (nI L), .int stp, .int why]] _ := hP
    have hD : va_D A [oC h ad sn hsh, oX (ad 1) 1 [.ref (ad 11), .int (nI L), .int stp, .int why]] := hD
    rw [hQQ]
    exact rt_x hexT hlk (()) hP hD hS hce9 hcv9 hcl9 (by first | exact Nat.le_of_ble_eq_true rfl | (simp only [rm_X1_whyStopped_s, rm_X1_needState_f]; omega) | omega) (by first | exact Nat.le_of_ble_eq_true rfl | (simp only [rm_X1_whyStopped_s, rm_X1_needState_f]; omega) | omega) trivial
  · skip
    exfalso; exact c_8 hs
def rm_X1_undo_s : Room := ({ frames := 10, cells := 1, slots := 6, locals := 160 } : Room)
set_option maxHeartbeats 400000 in
set_option maxRecDepth 100000 in
theorem t_X1_undo_s (l : Launch) (G : GG) (b0 sz : Nat) (h : Nat) (ad : Nat → Nat) (sn : Value) (hsh : Int64) (ea : Nat) (mc : Int32) (htr : l.stackTraces = false) : CTX l yX1_undo cX1_undo 1 (some FieldType.int) (rm_X1_undo_s) G b0 [.ref h] [oC h ad sn hsh, oX (ad 9) 11 [.int mc, .ref ea, .int (nI 0)]] sz "java/lang/IllegalStateException" (fun (_ : Unit) => True) (fun (_ : Unit) => [oC h ad sn hsh, oX (ad 9) 11 [.int mc, .ref ea, .int (nI 0)]]) := by
  refine CTX.go (by decide) (Nat.le_of_ble_eq_true rfl) (fun p e s m below meth c A ls AR QQ hx hb hr hlk hml hown hnm hts hE hA hAb hsz hP hD hS hl hexT hQQ => ?_)
  have hK := hE.1
  have hown : s.vm.findClass RX1 = some m.cls := hown
  have hl : lv_has ls 1 [(0, .ref h)] := hl
  clear hsz
  refine lv_aload_n hx hb dX1_undo_0 rfl (lv_at hl 0 rfl) ?_
  refine va_get (D := G.1) (ci := 0) (v := .ref (ad 9)) (C := RX1) (T := TX1) (N := 12) hx hb hts in_X1 hown hK hP 0 rfl rfl 8 (by decide) (hts _ q502) (fun _ h9 => h9) rfl dX1_undo_1 ?_
  refine fin_i (ws' := (fun (_ : Unit) => [oC h ad sn hsh, oX (ad 9) 11 [.int mc, .ref ea, .int (nI 0)]])) hA hS hP hD [1] rfl [(false, 0), (true, 0)] (fun _ => rfl) (by decide) (run_V (As := []) (rest := []) (n9 := 0) hx hb hml hown hts hE hAb hl.1 hS hP hD [1] rfl (by decide) (t_J9_isEmpty l G b0 _ (ad 9) ea 0 mc (by omega)) (lw_V q1508 q1509 q1510 q124 q1511) 1 rfl rfl ⟨rfl, by decide, by decide, by decide +kernel⟩ ⟨Nat.le_of_ble_eq_true rfl, Nat.le_of_ble_eq_true rfl⟩ ⟨by first | exact Nat.le_of_ble_eq_true rfl | (simp only [rm_X1_undo_s, rm_J9_isEmpty]; omega), by first | exact Nat.le_of_ble_eq_true rfl | (simp only [rm_X1_undo_s, rm_J9_isEmpty]; omega)⟩ dX1_undo_4 (Nat.le_of_ble_eq_true rfl) rfl rfl) (fun r_1 u_1 H locs h_1 hP hD hS => ?_)
  have hP : va_P G.1 vwCl [oC h ad sn hsh, oX (ad 9) 11 [.int mc, .ref ea, .int (nI 0)]] _ := hP
  have hD : va_D A [oC h ad sn hsh, oX (ad 9) 11 [.int mc, .ref ea, .int (nI 0)]] := hD
  have h_1 : r_1 = (bI (decide (0 = 0))) := h_1
  rw [h_1]
  refine B_if_ne (tgt := 14) hx hb dX1_undo_7 (by decide) (fun c_7 => ?_) (fun c_7 => ?_)
  · skip
    refine lv_iconst (v := nI 0) hx hb dX1_undo_14 (by decide) ?_
    refine W.eq (g2 := F0 m 15 ls [.int (bI false)]) rfl ?_
    have hF_2 := fr_free (wc := []) [] rfl hA hS hD
    refine fin_x (ws' := (fun (_ : Unit) => [oC h ad sn hsh, oX (ad 9) 11 [.int mc, .ref ea, .int (nI 0)]])) hS hF_2 (run_SX (As := [.int (bI false)]) (rest := []) (n9 := 1) hx hb hml hown hts hE hAb hl.1 hS hP hD [] rfl (by decide) (t_X1_needState_f l G b0 _  (by omega)) (lw_S q1392 q1393 q106 q1394) ⟨by decide, by decide, by decide +kernel⟩ ⟨Nat.le_of_ble_eq_true rfl, Nat.le_of_ble_eq_true rfl⟩ ⟨by first | exact Nat.le_of_ble_eq_true rfl | (simp only [rm_X1_undo_s, rm_X1_needState_f, rm_J9_isEmpty]; omega), by first | exact Nat.le_of_ble_eq_true rfl | (simp only [rm_X1_undo_s, rm_X1_needState_f, rm_J9_isEmpty]; omega)⟩ dX1_undo_15 (Nat.le_of_ble_eq_true rfl) rfl rfl) (fun _ H1_ hk_ hp_ hd_ => fr_sel (ws := [oC h ad sn hsh, oX (ad 9) 11 [.int mc, .ref ea, .int (nI 0)]]) (wc := []) (ws' := [oC h ad sn hsh, oX (ad 9) 11 [.int mc, .ref ea, .int (nI 0)]]) [] [(false, 0), (false, 1)] rfl rfl (by decide) hP hD hk_ hF_2 hp_ hd_) (fun ce9 q9 u_2 H locs h_2 hP hD hS hce9 hcv9 hcl9 => ?_)
    have hP : va_P G.1 vwCl [oC h ad sn hsh, oX (ad 9) 11 [.int mc, .ref ea, .int (nI 0)]] _ := hP
    have hD : va_D A [oC h ad sn hsh, oX (ad 9) 11 [.int mc, .ref ea, .int (nI 0)]] := hD
    rw [hQQ]
    exact rt_x hexT hlk (()) hP hD hS hce9 hcv9 hcl9 (by first | exact Nat.le_of_ble_eq_true rfl | (simp only [rm_X1_undo_s, rm_J9_isEmpty, rm_X1_needState_f]; omega) | omega) (by first | exact Nat.le_of_ble_eq_true rfl | (simp only [rm_X1_undo_s, rm_J9_isEmpty, rm_X1_needState_f]; omega) | omega) trivial
  · skip
    exfalso; exact absurd c_7 (by decide)
def rm_X1_restore_s : Room := ({ frames := 10, cells := 1, slots := 6, locals := 160 } : Room)
set_option maxHeartbeats 400000 in
set_option maxRecDepth 100000 in
theorem t_X1_restore_s (l : Launch) (G : GG) (b0 sz : Nat) (h : Nat) (ad : Nat → Nat) (hsh : Int64) (htr : l.stackTraces = false) : CTX l yX1_restore cX1_restore 1 (some FieldType.int) (rm_X1_restore_s) G b0 [.ref h] [oC h ad .null hsh] sz "java/lang/IllegalStateException" (fun (_ : Unit) => True) (fun (_ : Unit) => [oC h ad .null hsh]) := by
  refine CTX.go (by decide) (Nat.le_of_ble_eq_true rfl) (fun p e s m below meth c A ls AR QQ hx hb hr hlk hml hown hnm hts hE hA hAb hsz hP hD hS hl hexT hQQ => ?_)
  have hK := hE.1
  have hown : s.vm.findClass RX1 = some m.cls := hown
  have hl : lv_has ls 1 [(0, .ref h)] := hl
  clear hsz
  refine lv_aload_n hx hb dX1_restore_0 rfl (lv_at hl 0 rfl) ?_
  refine va_get (D := G.1) (ci := 0) (v := .null) (C := RX1) (T := TX1) (N := 12) hx hb hts in_X1 hown hK hP 0 rfl rfl 9 (by decide) (hts _ q503) (fun _ h9 => h9) rfl dX1_restore_1 ?_
  refine lv_ifnullN (tgt := 11) hx hb dX1_restore_4 (by decide) ?_
  refine lv_iconst (v := nI 0) hx hb dX1_restore_11 (by decide) ?_
  refine W.eq (g2 := F0 m 12 ls [.int (bI false)]) rfl ?_
  have hF_1 := fr_free (wc := []) [] rfl hA hS hD
  refine fin_x (ws' := (fun (_ : Unit) => [oC h ad .null hsh])) hS hF_1 (run_SX (As := [.int (bI false)]) (rest := []) (n9 := 1) hx hb hml hown hts hE hAb hl.1 hS hP hD [] rfl (by decide) (t_X1_needState_f l G b0 _  (by omega)) (lw_S q1392 q1393 q106 q1394) ⟨by decide, by decide, by decide +kernel⟩ ⟨Nat.le_of_ble_eq_true rfl, Nat.le_of_ble_eq_true rfl⟩ ⟨by first | exact Nat.le_of_ble_eq_true rfl | (simp only [rm_X1_restore_s, rm_X1_needState_f]; omega), by first | exact Nat.le_of_ble_eq_true rfl | (simp only [rm_X1_restore_s, rm_X1_needState_f]; omega)⟩ dX1_restore_12 (Nat.le_of_ble_eq_true rfl) rfl rfl) (fun _ H1_ hk_ hp_ hd_ => fr_sel (ws := [oC h ad .null hsh]) (wc := []) (ws' := [oC h ad .null hsh]) [] [(false, 0)] rfl rfl (by decide) hP hD hk_ hF_1 hp_ hd_) (fun ce9 q9 u_1 H locs h_1 hP hD hS hce9 hcv9 hcl9 => ?_)
  have hP : va_P G.1 vwCl [oC h ad .null hsh] _ := hP
  have hD : va_D A [oC h ad .null hsh] := hD
  rw [hQQ]
  exact rt_x hexT hlk (()) hP hD hS hce9 hcv9 hcl9 (by first | exact Nat.le_of_ble_eq_true rfl | (simp only [rm_X1_restore_s, rm_X1_needState_f]; omega) | omega) (by first | exact Nat.le_of_ble_eq_true rfl | (simp only [rm_X1_restore_s, rm_X1_needState_f]; omega) | omega) trivial
def rm_X1_codeBit_i : Room := ({ frames := 10, cells := 45, slots := 94, locals := 364 } : Room)
set_option maxHeartbeats 400000 in
set_option maxRecDepth 100000 in
theorem t_X1_codeBit_i (l : Launch) (G : GG) (b0 sz : Nat) (h : Nat) (ad : Nat → Nat) (sn : Value) (hsh : Int64) (L : Nat) (stp why : Int32) (st : Nat → Int32) (li : Nat → Int32) (pa : Nat → Int32) (ln at_ : Nat) (wa wu : Nat) (wn : Nat) (w : Nat → Int64) (t : Int32) (htr : l.stackTraces = false) (hL1 : 1 ≤ L) (hL : L ≤ 3) (hB : BW wn wu w) (hwn : wn ≤ 44) (hbd : bdP (splitP st L)) (htt : inB t (nI 0) (nI (lenC (splitP st L) L 0 - 1)) = false) : CTX l yX1_codeBit cX1_codeBit 3 (some FieldType.int) (rm_X1_codeBit_i) G b0 [.ref h, .int t] [oC h ad sn hsh, oX (ad 1) 1 [.ref (ad 11), .int (nI L), .int stp, .int why], aI G (ad 11) 64 st, oX (ad 3) 5 [.ref (ad 12)], aI G (ad 12) 8 li, aI G (ad 6) 64 pa, aR G (ad 2) 3 (orF ad), oX (ad (15 + L)) 2 [.ref (ad (16 + 3 * L)), .ref (ad (17 + 3 * L)), .ref (ad (18 + 3 * L)), .int (nI 64)], aI G (ad (16 + 3 * L)) 64 (nF (orT L)), oX (ad 5) 7 [.ref (ad 14), .ref (ad 15), .int (nI ln), .int (nI at_)], oX (ad 14) 10 [.ref wa, .int (nI wu), .int (bI false)], aJ G wa wn w] sz "java/lang/IndexOutOfBoundsException" (fun (u : (Nat × Nat × Nat × (Nat → Int64)) × (Nat → Int32)) => (∀ i, i < lenC (splitP st L) L 0 → bI (rb u.1.2.2.2 u.1.2.2.1 i) = bitS (splitP st L) L i 0) ∧ BW u.1.2.1 u.1.2.2.1 u.1.2.2.2 ∧ lenC (splitP st L) L 0 ≤ 1344 ∧ wn ≤ u.1.2.1 ∧ u.1.2.1 ≤ 44) (fun (u : (Nat × Nat × Nat × (Nat → Int64)) × (Nat → Int32)) => [oC h ad sn hsh, oX (ad 1) 1 [.ref (ad 11), .int (nI L), .int stp, .int why], aI G (ad 11) 64 st, oX (ad 3) 5 [.ref (ad 12)], aI G (ad 12) 8 u.2, aI G (ad 6) 64 (splitP st L), aR G (ad 2) 3 (orF ad), oX (ad (15 + L)) 2 [.ref (ad (16 + 3 * L)), .ref (ad (17 + 3 * L)), .ref (ad (18 + 3 * L)), .int (nI 64)], aI G (ad (16 + 3 * L)) 64 (nF (orT L)), oX (ad 5) 7 [.ref (ad 14), .ref (ad 15), .int (nI (lenC (splitP st L) L 0)), .int (nI at_)], oX (ad 14) 10 [.ref u.1.1, .int (nI u.1.2.2.1), .int (bI false)], aJ G u.1.1 u.1.2.1 u.1.2.2.2]) := by
  refine CTX.go (by decide) (Nat.le_of_ble_eq_true rfl) (fun p e s m below meth c A ls AR QQ hx hb hr hlk hml hown hnm hts hE hA hAb hsz hP hD hS hl hexT hQQ => ?_)
  have hK := hE.1
  have hown : s.vm.findClass RX1 = some m.cls := hown
  have hl : lv_has ls 3 [(0, .ref h), (1, .int t)] := hl
  clear hsz
  have hln := lenC_lo (f := splitP st L) (L := L)
  refine lv_aload_n hx hb dX1_codeBit_0 rfl (lv_at hl 0 rfl) ?_
  refine fin_r (ws' := (fun (u_1 : (Nat × Nat × Nat × (Nat → Int64)) × (Nat → Int32)) => [oC h ad sn hsh, oX (ad 1) 1 [.ref (ad 11), .int (nI L), .int stp, .int why], aI G (ad 11) 64 st, oX (ad 3) 5 [.ref (ad 12)], aI G (ad 12) 8 u_1.2, aI G (ad 6) 64 (splitP st L), aR G (ad 2) 3 (orF ad), oX (ad (15 + L)) 2 [.ref (ad (16 + 3 * L)), .ref (ad (17 + 3 * L)), .ref (ad (18 + 3 * L)), .int (nI 64)], aI G (ad (16 + 3 * L)) 64 (nF (orT L)), oX (ad 5) 7 [.ref (ad 14), .ref (ad 15), .int (nI (lenC (splitP st L) L 0)), .int (nI at_)], oX (ad 14) 10 [.ref u_1.1.1, .int (nI u_1.1.2.2.1), .int (bI false)], aJ G u_1.1.1 u_1.1.2.1 u_1.1.2.2.2])) hA hS hP hD [0, 1, 2, 3, 4, 5, 6, 7, 8, 9, 10, 11] rfl [(true, 0), (true, 1), (true, 2), (true, 3), (true, 4), (true, 5), (true, 6), (true, 7), (true, 8), (true, 9), (true, 10), (true, 11)] (fun _ => rfl) (by decide) (run_V (As := []) (rest := []) (n9 := 0) hx hb hml hown hts hE hAb hl.1 hS hP hD [0, 1, 2, 3, 4, 5, 6, 7, 8, 9, 10, 11] rfl (by decide) (t_X1_coded l G b0 _ h ad sn hsh L stp why st li pa ln at_ wa wu wn w (by omega) (by omega) (by exact hB) (by omega) (by exact hbd)) (lw_V q1059 q1061 qs18 q106 q1062) 0 rfl rfl ⟨rfl, by decide, by decide, by decide +kernel⟩ ⟨Nat.le_of_ble_eq_true rfl, Nat.le_of_ble_eq_true rfl⟩ ⟨by first | exact Nat.le_of_ble_eq_true rfl | (simp only [rm_X1_codeBit_i, rm_X1_coded]; omega), by first | exact Nat.le_of_ble_eq_true rfl | (simp only [rm_X1_codeBit_i, rm_X1_coded]; omega)⟩ dX1_codeBit_1 (Nat.le_of_ble_eq_true rfl) rfl rfl) (fun u_1 H locs h_1 hP hD hS => ?_)
  have hP : va_P G.1 vwCl [oC h ad sn hsh, oX (ad 1) 1 [.ref (ad 11), .int (nI L), .int stp, .int why], aI G (ad 11) 64 st, oX (ad 3) 5 [.ref (ad 12)], aI G (ad 12) 8 u_1.2, aI G (ad 6) 64 (splitP st L), aR G (ad 2) 3 (orF ad), oX (ad (15 + L)) 2 [.ref (ad (16 + 3 * L)), .ref (ad (17 + 3 * L)), .ref (ad (18 + 3 * L)), .int (nI 64)], aI G (ad (16 + 3 * L)) 64 (nF (orT L)), oX (ad 5) 7 [.ref (ad 14), .ref (ad 15), .int (nI (lenC (splitP st L) L 0)), .int (nI at_)], oX (ad 14) 10 [.ref u_1.1.1, .int (nI u_1.1.2.2.1), .int (bI false)], aJ G u_1.1.1 u_1.1.2.1 u_1.1.2.2.2] _ := hP
  have hD : va_D A [oC h ad sn hsh, oX (ad 1) 1 [.ref (ad 11), .int (nI L), .int stp, .int why], aI G (ad 11) 64 st, oX (ad 3) 5 [.ref (ad 12)], aI G (ad 12) 8 u_1.2, aI G (ad 6) 64 (splitP st L), aR G (ad 2) 3 (orF ad), oX (ad (15 + L)) 2 [.ref (ad (16 + 3 * L)), .ref (ad (17 + 3 * L)), .ref (ad (18 + 3 * L)), .int (nI 64)], aI G (ad (16 + 3 * L)) 64 (nF (orT L)), oX (ad 5) 7 [.ref (ad 14), .ref (ad 15), .int (nI (lenC (splitP st L) L 0)), .int (nI at_)], oX (ad 14) 10 [.ref u_1.1.1, .int (nI u_1.1.2.2.1), .int (bI false)], aJ G u_1.1.1 u_1.1.2.1 u_1.1.2.2.2] := hD
  refine W.eq (g2 := F0 m 4 ls [.ref (ad 5)]) rfl ?_
  have f_1 : (∀ i, i < lenC (splitP st L) L 0 → bI (rb u_1.1.2.2.2 u_1.1.2.2.1 i) = bitS (splitP st L) L i 0) ∧ BW u_1.1.2.1 u_1.1.2.2.1 u_1.1.2.2.2 ∧ lenC (splitP st L) L 0 ≤ 1344 ∧ wn ≤ u_1.1.2.1 ∧ u_1.1.2.1 ≤ 44 := h_1
  have hcf := f_1
  have hBu := hcf.2.1
  refine lv_astore_n (lv' := [(2, .ref (ad 5)), (0, .ref h), (1, .int t)]) hx hb dX1_codeBit_4 rfl hl (by decide) rfl (fun ls hl => ?_)
  refine lv_iload_n hx hb dX1_codeBit_5 rfl (lv_at hl 2 rfl) ?_
  refine lv_iconst (v := nI 0) hx hb dX1_codeBit_6 (by decide) ?_
  refine lv_aload_n hx hb dX1_codeBit_7 rfl (lv_at hl 0 rfl) ?_
  refine va_getN (D := G.1) (ci := 7) (v := .int (nI (lenC (splitP st L) L 0))) (C := RX8) (T := TX8) (N := 4) hx hb hts in_X8 hown hK hP 9 rfl rfl 2 (by decide) (hE.nb q424 rfl) (fun _ h9 => h9) rfl dX1_codeBit_8 ?_
  refine lv_iconst (v := nI 1) hx hb dX1_codeBit_11 (by decide) ?_
  refine N_isub hx hb dX1_codeBit_12 (by omega) ?_
  refine fin_i (ws' := (fun (_ : Unit) => [oC h ad sn hsh, oX (ad 1) 1 [.ref (ad 11), .int (nI L), .int stp, .int why], aI G (ad 11) 64 st, oX (ad 3) 5 [.ref (ad 12)], aI G (ad 12) 8 u_1.2, aI G (ad 6) 64 (splitP st L), aR G (ad 2) 3 (orF ad), oX (ad (15 + L)) 2 [.ref (ad (16 + 3 * L)), .ref (ad (17 + 3 * L)), .ref (ad (18 + 3 * L)), .int (nI 64)], aI G (ad (16 + 3 * L)) 64 (nF (orT L)), oX (ad 5) 7 [.ref (ad 14), .ref (ad 15), .int (nI (lenC (splitP st L) L 0)), .int (nI at_)], oX (ad 14) 10 [.ref u_1.1.1, .int (nI u_1.1.2.2.1), .int (bI false)], aJ G u_1.1.1 u_1.1.2.1 u_1.1.2.2.2])) hA hS hP hD [] rfl [(false, 0), (false, 1), (false, 2), (false, 3), (false, 4), (false, 5), (false, 6), (false, 7), (false, 8), (false, 9), (false, 10), (false, 11)] (fun _ => rfl) (by decide) (run_S (As := [.int t, .int (nI 0), .int (nI ((lenC (splitP st L) L 0) - 1))]) (rest := []) (n9 := 3) hx hb hml hown hts hE hAb hl.1 hS hP hD [] rfl (by decide) (t_X1_in l G b0 _ t (nI 0) (nI ((lenC (splitP st L) L 0) - 1)) ) (lw_S q1363 q1019 q106 q1020) ⟨by decide, by decide, by decide +kernel⟩ ⟨Nat.le_of_ble_eq_true rfl, Nat.le_of_ble_eq_true rfl⟩ ⟨by first | exact Nat.le_of_ble_eq_true rfl | (simp only [rm_X1_codeBit_i, rm_X1_in, rm_X1_coded]; omega), by first | exact Nat.le_of_ble_eq_true rfl | (simp only [rm_X1_codeBit_i, rm_X1_in, rm_X1_coded]; omega)⟩ dX1_codeBit_13 (Nat.le_of_ble_eq_true rfl) rfl rfl) (fun r_2 u_2 H locs h_2 hP hD hS => ?_)
  have hP : va_P G.1 vwCl [oC h ad sn hsh, oX (ad 1) 1 [.ref (ad 11), .int (nI L), .int stp, .int why], aI G (ad 11) 64 st, oX (ad 3) 5 [.ref (ad 12)], aI G (ad 12) 8 u_1.2, aI G (ad 6) 64 (splitP st L), aR G (ad 2) 3 (orF ad), oX (ad (15 + L)) 2 [.ref (ad (16 + 3 * L)), .ref (ad (17 + 3 * L)), .ref (ad (18 + 3 * L)), .int (nI 64)], aI G (ad (16 + 3 * L)) 64 (nF (orT L)), oX (ad 5) 7 [.ref (ad 14), .ref (ad 15), .int (nI (lenC (splitP st L) L 0)), .int (nI at_)], oX (ad 14) 10 [.ref u_1.1.1, .int (nI u_1.1.2.2.1), .int (bI false)], aJ G u_1.1.1 u_1.1.2.1 u_1.1.2.2.2] _ := hP
  have hD : va_D A [oC h ad sn hsh, oX (ad 1) 1 [.ref (ad 11), .int (nI L), .int stp, .int why], aI G (ad 11) 64 st, oX (ad 3) 5 [.ref (ad 12)], aI G (ad 12) 8 u_1.2, aI G (ad 6) 64 (splitP st L), aR G (ad 2) 3 (orF ad), oX (ad (15 + L)) 2 [.ref (ad (16 + 3 * L)), .ref (ad (17 + 3 * L)), .ref (ad (18 + 3 * L)), .int (nI 64)], aI G (ad (16 + 3 * L)) 64 (nF (orT L)), oX (ad 5) 7 [.ref (ad 14), .ref (ad 15), .int (nI (lenC (splitP st L) L 0)), .int (nI at_)], oX (ad 14) 10 [.ref u_1.1.1, .int (nI u_1.1.2.2.1), .int (bI false)], aJ G u_1.1.1 u_1.1.2.1 u_1.1.2.2.2] := hD
  have h_2 : r_2 = (bI (inB t (nI 0) (nI ((lenC (splitP st L) L 0) - 1)))) := h_2
  rw [h_2]
  refine W.eq (g2 := F0 m 16 ls [.int (bI false)]) (by rw [htt]) ?_
  have hF_3 := fr_free (wc := []) [] rfl hA hS hD
  refine fin_x (ws' := (fun (_ : Unit) => [oC h ad sn hsh, oX (ad 1) 1 [.ref (ad 11), .int (nI L), .int stp, .int why], aI G (ad 11) 64 st, oX (ad 3) 5 [.ref (ad 12)], aI G (ad 12) 8 u_1.2, aI G (ad 6) 64 (splitP st L), aR G (ad 2) 3 (orF ad), oX (ad (15 + L)) 2 [.ref (ad (16 + 3 * L)), .ref (ad (17 + 3 * L)), .ref (ad (18 + 3 * L)), .int (nI 64)], aI G (ad (16 + 3 * L)) 64 (nF (orT L)), oX (ad 5) 7 [.ref (ad 14), .ref (ad 15), .int (nI (lenC (splitP st L) L 0)), .int (nI at_)], oX (ad 14) 10 [.ref u_1.1.1, .int (nI u_1.1.2.2.1), .int (bI false)], aJ G u_1.1.1 u_1.1.2.1 u_1.1.2.2.2])) hS hF_3 (run_SX (As := [.int (bI false)]) (rest := []) (n9 := 1) hx hb hml hown hts hE hAb hl.1 hS hP hD [] rfl (by decide) (t_X1_needIndex_f l G b0 _  (by omega)) (lw_S q1364 q1365 q106 q1366) ⟨by decide, by decide, by decide +kernel⟩ ⟨Nat.le_of_ble_eq_true rfl, Nat.le_of_ble_eq_true rfl⟩ ⟨by first | exact Nat.le_of_ble_eq_true rfl | (simp only [rm_X1_codeBit_i, rm_X1_needIndex_f, rm_X1_coded, rm_X1_in]; omega), by first | exact Nat.le_of_ble_eq_true rfl | (simp only [rm_X1_codeBit_i, rm_X1_needIndex_f, rm_X1_coded, rm_X1_in]; omega)⟩ dX1_codeBit_16 (Nat.le_of_ble_eq_true rfl) rfl rfl) (fun _ H1_ hk_ hp_ hd_ => fr_sel (ws := [oC h ad sn hsh, oX (ad 1) 1 [.ref (ad 11), .int (nI L), .int stp, .int why], aI G (ad 11) 64 st, oX (ad 3) 5 [.ref (ad 12)], aI G (ad 12) 8 u_1.2, aI G (ad 6) 64 (splitP st L), aR G (ad 2) 3 (orF ad), oX (ad (15 + L)) 2 [.ref (ad (16 + 3 * L)), .ref (ad (17 + 3 * L)), .ref (ad (18 + 3 * L)), .int (nI 64)], aI G (ad (16 + 3 * L)) 64 (nF (orT L)), oX (ad 5) 7 [.ref (ad 14), .ref (ad 15), .int (nI (lenC (splitP st L) L 0)), .int (nI at_)], oX (ad 14) 10 [.ref u_1.1.1, .int (nI u_1.1.2.2.1), .int (bI false)], aJ G u_1.1.1 u_1.1.2.1 u_1.1.2.2.2]) (wc := []) (ws' := [oC h ad sn hsh, oX (ad 1) 1 [.ref (ad 11), .int (nI L), .int stp, .int why], aI G (ad 11) 64 st, oX (ad 3) 5 [.ref (ad 12)], aI G (ad 12) 8 u_1.2, aI G (ad 6) 64 (splitP st L), aR G (ad 2) 3 (orF ad), oX (ad (15 + L)) 2 [.ref (ad (16 + 3 * L)), .ref (ad (17 + 3 * L)), .ref (ad (18 + 3 * L)), .int (nI 64)], aI G (ad (16 + 3 * L)) 64 (nF (orT L)), oX (ad 5) 7 [.ref (ad 14), .ref (ad 15), .int (nI (lenC (splitP st L) L 0)), .int (nI at_)], oX (ad 14) 10 [.ref u_1.1.1, .int (nI u_1.1.2.2.1), .int (bI false)], aJ G u_1.1.1 u_1.1.2.1 u_1.1.2.2.2]) [] [(false, 0), (false, 1), (false, 2), (false, 3), (false, 4), (false, 5), (false, 6), (false, 7), (false, 8), (false, 9), (false, 10), (false, 11)] rfl rfl (by decide) hP hD hk_ hF_3 hp_ hd_) (fun ce9 q9 u_3 H locs h_3 hP hD hS hce9 hcv9 hcl9 => ?_)
  have hP : va_P G.1 vwCl [oC h ad sn hsh, oX (ad 1) 1 [.ref (ad 11), .int (nI L), .int stp, .int why], aI G (ad 11) 64 st, oX (ad 3) 5 [.ref (ad 12)], aI G (ad 12) 8 u_1.2, aI G (ad 6) 64 (splitP st L), aR G (ad 2) 3 (orF ad), oX (ad (15 + L)) 2 [.ref (ad (16 + 3 * L)), .ref (ad (17 + 3 * L)), .ref (ad (18 + 3 * L)), .int (nI 64)], aI G (ad (16 + 3 * L)) 64 (nF (orT L)), oX (ad 5) 7 [.ref (ad 14), .ref (ad 15), .int (nI (lenC (splitP st L) L 0)), .int (nI at_)], oX (ad 14) 10 [.ref u_1.1.1, .int (nI u_1.1.2.2.1), .int (bI false)], aJ G u_1.1.1 u_1.1.2.1 u_1.1.2.2.2] _ := hP
  have hD : va_D A [oC h ad sn hsh, oX (ad 1) 1 [.ref (ad 11), .int (nI L), .int stp, .int why], aI G (ad 11) 64 st, oX (ad 3) 5 [.ref (ad 12)], aI G (ad 12) 8 u_1.2, aI G (ad 6) 64 (splitP st L), aR G (ad 2) 3 (orF ad), oX (ad (15 + L)) 2 [.ref (ad (16 + 3 * L)), .ref (ad (17 + 3 * L)), .ref (ad (18 + 3 * L)), .int (nI 64)], aI G (ad (16 + 3 * L)) 64 (nF (orT L)), oX (ad 5) 7 [.ref (ad 14), .ref (ad 15), .int (nI (lenC (splitP st L) L 0)), .int (nI at_)], oX (ad 14) 10 [.ref u_1.1.1, .int (nI u_1.1.2.2.1), .int (bI false)], aJ G u_1.1.1 u_1.1.2.1 u_1.1.2.2.2] := hD
  rw [hQQ]
  exact rt_x hexT hlk (((u_1.1.1, u_1.1.2.1, u_1.1.2.2.1, u_1.1.2.2.2), u_1.2)) hP hD hS hce9 hcv9 hcl9 (by first | exact Nat.le_of_ble_eq_true rfl | (simp only [rm_X1_codeBit_i, rm_X1_coded, rm_X1_in, rm_X1_needIndex_f]; omega) | omega) (by first | exact Nat.le_of_ble_eq_true rfl | (simp only [rm_X1_codeBit_i, rm_X1_coded, rm_X1_in, rm_X1_needIndex_f]; omega) | omega) (by exact hcf)
