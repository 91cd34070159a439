/-! ===== doubles as longs ===== -/
theorem shr_self : ∀ n, n ≤ 64 → Op.cmpValue (FP.dcmp (shrD n) (shrD n)) .l = 0 := by
  have h : ∀ n : Fin 65, Op.cmpValue (FP.dcmp (shrD n.val) (shrD n.val)) .l = 0 := by decide +kernel
  intro n hn
  exact h ⟨n, by omega⟩
def rm_J25_isNaN : Room := ({ frames := 0, cells := 0, slots := 0, locals := 0 } : Room)
set_option maxHeartbeats 400000 in
set_option maxRecDepth 100000 in
theorem t_J25_isNaN (l : Launch) (G : GG) (b0 sz : Nat) (x : UInt64) (n : Nat) (hxn : x = shrD n) (hn : n ≤ 64) : CT l yJ25_isNaN cJ25_isNaN 2 (some FieldType.boolean) (rm_J25_isNaN) G b0 [.double x] [] sz (Ri G (fun (r_ : Int32) (_ : Unit) => r_ = bI false) (fun (_ : Unit) => [])) := by
  refine CT.go (by decide) (Nat.le_of_ble_eq_true rfl) (fun p e s m below meth c A ls AR QQ hx hb hr hlk hml hown hnm hts hE hA hAb hsz hP hD hS hl hQQ => ?_)
  have hK := hE.1
  have hown : s.vm.findClass RJ25 = some m.cls := hown
  have hl : lv_has ls 2 [(0, .double x)] := hl
  clear hsz
  refine lv_dload_n hx hb dJ25_isNaN_0 rfl (lv_at hl 0 rfl) ?_
  refine lv_dload_n hx hb dJ25_isNaN_1 rfl (lv_at hl 0 rfl) ?_
  refine lv_dcmp hx hb dJ25_isNaN_2 ?_
  refine W.eq (g2 := F0 m 3 ls [.int (nI 0)]) (by rw [hxn, shr_self _ hn]; rfl) ?_
  refine N_if_eq (tgt := 10) hx hb dJ25_isNaN_3 (by decide) (by omega) (fun c_3 => ?_) (fun c_3 => ?_)
  · skip
    refine lv_iconst (v := nI 0) hx hb dJ25_isNaN_10 (by decide) ?_
    rw [hQQ]
    exact rt_z hx hb hr hlk (by first | exact bI_nar _ | rfl) (()) dJ25_isNaN_11 hP hD hS (by first | exact Nat.le_of_ble_eq_true rfl | (simp only [rm_J25_isNaN]; omega)) (by first | exact Nat.le_of_ble_eq_true rfl | (simp only [rm_J25_isNaN]; omega)) (by rfl)
  · skip
    exfalso; omega
def rm_J25_doubleToLongBits : Room := ({ frames := 1, cells := 0, slots := 0, locals := 30 } : Room)
set_option maxHeartbeats 400000 in
set_option maxRecDepth 100000 in
theorem t_J25_doubleToLongBits (l : Launch) (G : GG) (b0 sz : Nat) (x : UInt64) (n : Nat) (hxn : x = shrD n) (hn : n ≤ 64) : CT l yJ25_doubleToLongBits cJ25_doubleToLongBits 2 (some FieldType.long) (rm_J25_doubleToLongBits) G b0 [.double x] [] sz (Rl G (fun (r_ : Int64) (_ : Unit) => r_ = x.toInt64) (fun (_ : Unit) => [])) := by
  refine CT.go (by decide) (Nat.le_of_ble_eq_true rfl) (fun p e s m below meth c A ls AR QQ hx hb hr hlk hml hown hnm hts hE hA hAb hsz hP hD hS hl hQQ => ?_)
  have hK := hE.1
  have hown : s.vm.findClass RJ25 = some m.cls := hown
  have hl : lv_has ls 2 [(0, .double x)] := hl
  clear hsz
  refine lv_dload_n hx hb dJ25_doubleToLongBits_0 rfl (lv_at hl 0 rfl) ?_
  refine fin_i (ws' := (fun (_ : Unit) => [])) hA hS hP hD [] rfl [] (fun _ => rfl) (by decide) (run_S (As := [.double x]) (rest := []) (n9 := 1) hx hb hml hown hts hE hAb hl.1 hS hP hD [] rfl (by decide) (t_J25_isNaN l G b0 _ x n (by omega) (by omega)) (lw_S q1341 q1342 q143 q1343) ⟨by decide, by decide, by decide +kernel⟩ ⟨Nat.le_of_ble_eq_true rfl, Nat.le_of_ble_eq_true rfl⟩ ⟨by first | exact Nat.le_of_ble_eq_true rfl | (simp only [rm_J25_doubleToLongBits, rm_J25_isNaN]; omega), by first | exact Nat.le_of_ble_eq_true rfl | (simp only [rm_J25_doubleToLongBits, rm_J25_isNaN]; omega)⟩ dJ25_doubleToLongBits_1 (Nat.le_of_ble_eq_true rfl) rfl rfl) (fun r_1 u_1 H locs h_1 hP hD hS => ?_)
  have hP : va_P G.1 vwCl [] _ := hP
  have hD : va_D A [] := hD
  have h_1 : r_1 = (bI false) := h_1
  rw [h_1]
  refine B_if_ne (tgt := 12) hx hb dJ25_doubleToLongBits_4 (by decide) (fun c_4 => ?_) (fun c_4 => ?_)
  · skip
    exfalso; cases c_4
  · skip
    refine lv_dload_n hx hb dJ25_doubleToLongBits_7 rfl (lv_at hl 0 rfl) ?_
    refine vn_d2l hx hb (hml.trans hl.1.symm) hown (hts _ q1344) (hts _ q1346) (hts _ q1345) (hts _ q143) (Nat.le_of_ble_eq_true rfl) (Nat.le_of_ble_eq_true rfl) dJ25_doubleToLongBits_8 ?_
    rw [hQQ]
    exact rt_l hx hb hr hlk  (()) dJ25_doubleToLongBits_11 hP hD hS (by first | exact Nat.le_of_ble_eq_true rfl | (simp only [rm_J25_doubleToLongBits]; omega)) (by first | exact Nat.le_of_ble_eq_true rfl | (simp only [rm_J25_doubleToLongBits]; omega)) (by rfl)
