/-! ===== the component: texts are read ===== -/
def nxC (ch : Nat → Nat) (len i : Nat) : Nat := if i < len then ch i else 0
theorem nxC_lt {ch : Nat → Nat} {len i : Nat} (hc : ∀ j, j < len → ch j ≤ 126) : nxC ch len i ≤ 126 := by
  unfold nxC
  split
  · exact hc _ (by assumption)
  · omega
theorem nx_1 {ch : Nat → Nat} {len i : Nat} (h : i < len) : nxC ch len i = ch i := if_pos h
theorem nx_0 {ch : Nat → Nat} {len i : Nat} (h : ¬ i < len) : nxC ch len i = 0 := if_neg h
theorem nx_in {ch : Nat → Nat} {len i : Nat} (hc : ∀ j, j < len → ch j ≤ 126) (h : inB (nI (nxC ch len i)) (nI 48) (nI 57) = true) : i < len ∧ 48 ≤ ch i ∧ ch i ≤ 57 ∧ nxC ch len i = ch i := by
  rw [inB_nat (by have := nxC_lt (i := i) hc; omega) (by decide) (by decide)] at h
  have h := of_decide_eq_true h
  by_cases c : i < len
  · rw [nx_1 c] at h
    exact ⟨c, h.1, h.2, nx_1 c⟩
  · rw [nx_0 c] at h
    omega
theorem nx_out {ch : Nat → Nat} {len i : Nat} (hc : ∀ j, j < len → ch j ≤ 126) (h : inB (nI (nxC ch len i)) (nI 48) (nI 57) = false) : ¬ (i < len ∧ 48 ≤ ch i ∧ ch i ≤ 57) := by
  rw [inB_nat (by have := nxC_lt (i := i) hc; omega) (by decide) (by decide)] at h
  have h := of_decide_eq_false h
  intro hh
  rw [nx_1 hh.1] at h
  exact h hh.2
def rvI (b : Bool) (n : Nat) : Int32 := if b = true then nI n else (-1000)
theorem rv_mx {b : Bool} {n : Nat} (h0 : b = false → n = 0) (h : n < 2147483648) : maxI (nI 0) (rvI b n) = nI n := by
  unfold rvI
  cases b with
  | true =>
    rw [if_pos rfl]
    unfold maxI
    by_cases c : 0 < n
    · rw [if_pos ((nI_ltI (by decide) h).mpr c)]
    · rw [if_neg (fun z => c ((nI_ltI (by decide) h).mp z)), show n = 0 by omega]
  | false =>
    rw [if_neg (by decide), h0 rfl]
    decide
theorem rv_0 {b : Bool} {n : Nat} (h : n < 2147483648) (c : rvI b n = 0) : b = true ∧ n = 0 := by
  unfold rvI at c
  cases b with
  | true =>
    rw [if_pos rfl] at c
    refine ⟨rfl, ?_⟩
    have := congrArg Int32.toInt c
    rw [nI_toInt h] at this
    have h0 : (0 : Int32).toInt = 0 := rfl
    omega
  | false => rw [if_neg (by decide)] at c; exact absurd c (by decide)
theorem rv_n0 {b : Bool} {n : Nat} (h : n < 2147483648) (c : ¬ rvI b n = 0) : b = false ∨ 0 < n := by
  cases b with
  | true =>
    right
    rcases Nat.eq_zero_or_pos n with z | z
    · exact absurd (by rw [z]; rfl) c
    · exact z
  | false => exact Or.inl rfl
theorem rv_m {b : Bool} {n : Nat} (h : n ≤ 255) : rvI b n = (-1000) ↔ b = false := by
  unfold rvI
  cases b with
  | true =>
    rw [if_pos rfl]
    constructor
    · intro e
      have := congrArg Int32.toInt e
      rw [nI_toInt (by omega)] at this
      have h0 : ((-1000) : Int32).toInt = -1000 := by decide
      omega
    · intro e; cases e
  | false => exact ⟨fun _ => rfl, fun _ => rfl⟩
theorem rn_o1 {ch : Nat → Nat} {len lo hi : Nat} {b : Bool} {n i : Nat} {R : Bool × Nat × Nat} (h : i ≤ 60) (hj : numF ch len lo hi (61 - i) b n i = R) (hn : ¬ (i < len ∧ 48 ≤ ch i ∧ ch i ≤ 57 ∧ ((b = true ∧ 0 < n) ∨ (b = false ∧ lo ≤ ch i - 48)) ∧ 10 * n + (ch i - 48) ≤ hi)) : (b, n, i) = R := (numF_no h (decide_eq_false hn)).symm.trans hj
theorem rn_in {lo hi x : Nat} {a : Bool} (hx : x < 2147483648) (hl : lo < 2147483648) (hh : hi < 2147483648) (h : inB (nI x) (nI lo) (nI hi) = a) : (a = true → lo ≤ x ∧ x ≤ hi) ∧ (a = false → ¬ (lo ≤ x ∧ x ≤ hi)) := by
  rw [inB_nat hx hl hh] at h
  constructor
  · intro z; rw [z] at h; exact of_decide_eq_true h
  · intro z; rw [z] at h; exact of_decide_eq_false h
theorem rn_go {ch : Nat → Nat} {len lo hi : Nat} {b : Bool} {n i n' : Nat} {R : Bool × Nat × Nat} (h : i ≤ 60) (hj : numF ch len lo hi (61 - i) b n i = R) (hb : b = false ∨ 0 < n) (h0 : b = false → n = 0) (h1 : i < len ∧ 48 ≤ ch i ∧ ch i ≤ 57) (h2 : lo ≤ n' ∧ n' ≤ hi) (e : n' = 10 * n + (ch i - 48)) : numF ch len lo hi (61 - (i + 1)) true n' (i + 1) = R := by
  rw [e]
  refine (numF_go h (decide_eq_true ⟨h1.1, h1.2.1, h1.2.2, ?_, by omega⟩)).symm.trans hj
  cases b with
  | true => exact Or.inl ⟨rfl, by rcases hb with z | z; cases z; exact z⟩
  | false => exact Or.inr ⟨rfl, by have := h0 rfl; omega⟩
theorem rn_x {ch : Nat → Nat} {len lo hi : Nat} {b : Bool} {n i : Nat} {R : Bool × Nat × Nat} (h : i ≤ 60) (hj : numF ch len lo hi (61 - i) b n i = R) (hl : lo ≤ 1) (h0 : b = false → n = 0) (h1 : 48 ≤ ch i) (h2 : ¬ (lo ≤ 10 * n + (ch i - 48) ∧ 10 * n + (ch i - 48) ≤ hi)) : (b, n, i) = R := by
  refine rn_o1 h hj (fun hh => h2 ⟨?_, hh.2.2.2.2⟩)
  rcases hh.2.2.2.1 with ⟨_, c⟩ | ⟨c, d⟩
  · omega
  · have := h0 c
    omega
theorem rn_z {ch : Nat → Nat} {len lo hi : Nat} {b : Bool} {n i : Nat} {R : Bool × Nat × Nat} (h : i ≤ 60) (hj : numF ch len lo hi (61 - i) b n i = R) (hz : b = true ∧ n = 0) : (b, n, i) = R := by
  refine rn_o1 h hj (fun hh => ?_)
  rcases hh.2.2.2.1 with ⟨_, c⟩ | ⟨c, _⟩
  · omega
  · rw [hz.1] at c; cases c
theorem sg_t {ch : Nat → Nat} {len i c : Nat} (hc : 0 < c) (hi : i ≤ len) (h : nxC ch len i = c) : sgB ch len i c = true ∧ sgA ch len i c = i + 1 := by
  have hl : i < len := by
    by_cases z : i < len
    · exact z
    · rw [nx_0 z] at h; omega
  rw [nx_1 hl] at h
  unfold sgB sgA
  rw [if_neg (show ¬ i = len by omega), if_neg (show ¬ i = len by omega), if_pos h, if_pos h]
  exact ⟨rfl, rfl⟩
theorem sg_f {ch : Nat → Nat} {len i c : Nat} (hi : i ≤ len) (h : ¬ nxC ch len i = c) : sgB ch len i c = false ∧ sgA ch len i c = i := by
  unfold sgB sgA
  by_cases z : i = len
  · rw [if_pos z, if_pos z]
    exact ⟨rfl, rfl⟩
  · rw [nx_1 (by omega)] at h
    rw [if_neg z, if_neg z, if_neg h, if_neg h]
    exact ⟨rfl, rfl⟩
/-- a cell, without the sign behind it -/
def clR (ch : Nat → Nat) (len i : Nat) : Bool × Nat :=
  if (rdR ch len 0 7 i).1 = true then
    (if sgB ch len (rdR ch len 0 7 i).2.2 46 = true then ((rdR ch len 0 7 (sgA ch len (rdR ch len 0 7 i).2.2 46)).1, (rdR ch len 0 7 (sgA ch len (rdR ch len 0 7 i).2.2 46)).2.2)
    else (false, sgA ch len (rdR ch len 0 7 i).2.2 46))
  else (false, (rdR ch len 0 7 i).2.2)
def clX (ch : Nat → Nat) (len i : Nat) : Nat := (rdR ch len 0 7 i).2.1
def clY (ch : Nat → Nat) (len i : Nat) : Nat := (rdR ch len 0 7 (sgA ch len (rdR ch len 0 7 i).2.2 46)).2.1
theorem clR_at {ch : Nat → Nat} {len i : Nat} (h : i ≤ len) : (clR ch len i).2 ≤ len := by
  have h1 := rdR_at (ch := ch) (lo := 0) (hi := 7) h
  have h2 := sgA_le (ch := ch) (c := 46) h1.1
  have h3 := rdR_at (ch := ch) (lo := 0) (hi := 7) h2.1
  unfold clR
  repeat' split
  all_goals (dsimp only; omega)
theorem cel_t {ch : Nat → Nat} {len i : Nat} (h : (clR ch len i).1 = true) : celR ch len i = (sgB ch len (clR ch len i).2 61, sgA ch len (clR ch len i).2 61, clX ch len i, clY ch len i) := by
  unfold clR at h ⊢
  unfold celR clX clY
  by_cases c1 : (rdR ch len 0 7 i).1 = true
  · rw [if_pos c1] at h ⊢
    rw [if_pos c1]
    by_cases c2 : sgB ch len (rdR ch len 0 7 i).2.2 46 = true
    · rw [if_pos c2] at h ⊢
      rw [if_pos c2, if_pos h]
    · rw [if_neg c2] at h
      cases h
  · rw [if_neg c1] at h
    cases h
theorem cel_f {ch : Nat → Nat} {len i : Nat} (h : (clR ch len i).1 = false) : celR ch len i = (false, (clR ch len i).2, 0, 0) := by
  unfold clR at h ⊢
  unfold celR
  by_cases c1 : (rdR ch len 0 7 i).1 = true
  · rw [if_pos c1] at h ⊢
    rw [if_pos c1]
    by_cases c2 : sgB ch len (rdR ch len 0 7 i).2.2 46 = true
    · rw [if_pos c2] at h ⊢
      rw [if_pos c2, if_neg (by rw [h]; decide)]
    · rw [if_neg c2, if_neg c2]
  · rw [if_neg c1, if_neg c1]
/-- below slot 4 m + 1 nothing was changed -/
def fdS (m : Nat) (f g : Nat → Int32) : Prop := ∀ j, j ≤ 4 * m → g j = f j
theorem fdS_u {m k : Nat} {f g : Nat → Int32} {v : Int32} (h : fdS m f g) (hk : 1 ≤ k) : fdS m f (upd g (4 * m + k) v) := by
  intro j hj
  unfold upd
  rw [if_neg (by omega)]
  exact h j hj
theorem fdS_r {m : Nat} {f : Nat → Int32} : fdS m f f := fun _ _ => rfl
def rm_X10_next : Room := ({ frames := 4, cells := 0, slots := 0, locals := 140 } : Room)
set_option maxHeartbeats 400000 in
set_option maxRecDepth 100000 in
theorem t_X10_next (l : Launch) (G : GG) (b0 sz : Nat) (r fo many at_ h len : Nat) (ad : Nat → Nat) (sn : Value) (hsh : Int64) (ml : Bool) (ch : Nat → Nat) (hat : at_ ≤ len) (hle : len ≤ 60) (hch : ∀ j, j < len → ch j ≤ 126) : CT l yX10_next cX10_next 1 (some FieldType.int) (rm_X10_next) G b0 [.ref r] [oX r 9 [.ref fo, .int (nI many), .int (nI at_), .ref h], oC h ad sn hsh, oX (ad 10) 12 [.ref (ad 28), .int (nI 0), .int (bI ml), .int (nI len)], aB G (ad 28) 60 (nF ch)] sz (Ri G (fun (r_ : Int32) (_ : Unit) => r_ = nI (nxC ch len at_)) (fun (_ : Unit) => [oX r 9 [.ref fo, .int (nI many), .int (nI at_), .ref h], oC h ad sn hsh, oX (ad 10) 12 [.ref (ad 28), .int (nI 0), .int (bI ml), .int (nI len)], aB G (ad 28) 60 (nF ch)])) := by
  refine CT.go (by decide) (Nat.le_of_ble_eq_true rfl) (fun p e s m below meth c A ls AR QQ hx hb hr hlk hml hown hnm hts hE hA hAb hsz hP hD hS hl hQQ => ?_)
  have hK := hE.1
  have hown : s.vm.findClass RX10 = some m.cls := hown
  have hl : lv_has ls 1 [(0, .ref r)] := hl
  clear hsz
  refine lv_aload_n hx hb dX10_next_0 rfl (lv_at hl 0 rfl) ?_
  refine va_get (D := G.1) (ci := 9) (v := .int (nI at_)) (C := RX10) (T := TX10) (N := 4) hx hb hts in_X10 hown hK hP 0 rfl rfl 2 (by decide) (hts _ q964) (fun _ h9 => h9) rfl dX10_next_1 ?_
  refine lv_aload_n hx hb dX10_next_4 rfl (lv_at hl 0 rfl) ?_
  refine va_get (D := G.1) (ci := 9) (v := .ref h) (C := RX10) (T := TX10) (N := 4) hx hb hts in_X10 hown hK hP 0 rfl rfl 3 (by decide) (hts _ q966) (fun _ h9 => h9) rfl dX10_next_5 ?_
  refine va_getN (D := G.1) (ci := 0) (v := .ref (ad 10)) (C := RX1) (T := TX1) (N := 12) hx hb hts in_X1 hown hK hP 1 rfl rfl 10 (by decide) (hE.nb q504 rfl) (fun _ h9 => h9) rfl dX10_next_8 ?_
  refine fin_i (ws' := (fun (_ : Unit) => [oX r 9 [.ref fo, .int (nI many), .int (nI at_), .ref h], oC h ad sn hsh, oX (ad 10) 12 [.ref (ad 28), .int (nI 0), .int (bI ml), .int (nI len)], aB G (ad 28) 60 (nF ch)])) hA hS hP hD [2, 3] rfl [(false, 0), (false, 1), (true, 0), (true, 1)] (fun _ => rfl) (by decide) (run_V (As := []) (rest := [.int (nI at_)]) (n9 := 0) hx hb hml hown hts hE hAb hl.1 hS hP hD [2, 3] rfl (by decide) (t_J11_length l G b0 _ (ad 10) (ad 28) len ml ch ) (lw_V q988 q665 q666 q126 q667) 2 rfl rfl ⟨rfl, by decide, by decide, by decide +kernel⟩ ⟨Nat.le_of_ble_eq_true rfl, Nat.le_of_ble_eq_true rfl⟩ ⟨by first | exact Nat.le_of_ble_eq_true rfl | (simp only [rm_X10_next, rm_J11_length]; omega), by first | exact Nat.le_of_ble_eq_true rfl | (simp only [rm_X10_next, rm_J11_length]; omega)⟩ dX10_next_11 (Nat.le_of_ble_eq_true rfl) rfl rfl) (fun r_1 u_1 H locs h_1 hP hD hS => ?_)
  have hP : va_P G.1 vwCl [oX r 9 [.ref fo, .int (nI many), .int (nI at_), .ref h], oC h ad sn hsh, oX (ad 10) 12 [.ref (ad 28), .int (nI 0), .int (bI ml), .int (nI len)], aB G (ad 28) 60 (nF ch)] _ := hP
  have hD : va_D A [oX r 9 [.ref fo, .int (nI many), .int (nI at_), .ref h], oC h ad sn hsh, oX (ad 10) 12 [.ref (ad 28), .int (nI 0), .int (bI ml), .int (nI len)], aB G (ad 28) 60 (nF ch)] := hD
  have h_1 : r_1 = (nI len) := h_1
  rw [h_1]
  refine N_icmp_ge (tgt := 34) hx hb dX10_next_14 (by decide) (by omega) (by omega) (fun c_14 => ?_) (fun c_14 => ?_)
  · skip
    refine lv_iconst (v := nI 0) hx hb dX10_next_34 (by decide) ?_
    rw [hQQ]
    exact rt_i hx hb hr hlk  ((())) dX10_next_35 hP hD hS (by first | exact Nat.le_of_ble_eq_true rfl | (simp only [rm_X10_next, rm_J11_length]; omega) | omega) (by first | exact Nat.le_of_ble_eq_true rfl | (simp only [rm_X10_next, rm_J11_length]; omega) | omega) (by first | rw [nx_1 (by omega)] | rw [nx_0 (by omega)])
  · skip
    refine lv_aload_n hx hb dX10_next_17 rfl (lv_at hl 0 rfl) ?_
    refine va_get (D := G.1) (ci := 9) (v := .ref h) (C := RX10) (T := TX10) (N := 4) hx hb hts in_X10 hown hK hP 0 rfl rfl 3 (by decide) (hts _ q966) (fun _ h9 => h9) rfl dX10_next_18 ?_
    refine va_getN (D := G.1) (ci := 0) (v := .ref (ad 10)) (C := RX1) (T := TX1) (N := 12) hx hb hts in_X1 hown hK hP 1 rfl rfl 10 (by decide) (hE.nb q504 rfl) (fun _ h9 => h9) rfl dX10_next_21 ?_
    refine lv_aload_n hx hb dX10_next_24 rfl (lv_at hl 0 rfl) ?_
    refine va_get (D := G.1) (ci := 9) (v := .int (nI at_)) (C := RX10) (T := TX10) (N := 4) hx hb hts in_X10 hown hK hP 0 rfl rfl 2 (by decide) (hts _ q964) (fun _ h9 => h9) rfl dX10_next_25 ?_
    have hc9 := hch at_ (by omega)
    refine fin_i (ws' := (fun (_ : Unit) => [oX r 9 [.ref fo, .int (nI many), .int (nI at_), .ref h], oC h ad sn hsh, oX (ad 10) 12 [.ref (ad 28), .int (nI 0), .int (bI ml), .int (nI len)], aB G (ad 28) 60 (nF ch)])) hA hS hP hD [2, 3] rfl [(false, 0), (false, 1), (true, 0), (true, 1)] (fun _ => rfl) (by decide) (run_V (As := [.int (nI at_)]) (rest := []) (n9 := 1) hx hb hml hown hts hE hAb hl.1 hS hP hD [2, 3] rfl (by decide) (t_J11_charAt l G b0 _ (ad 10) (ad 28) len ml ch at_ (by omega) (by omega) (by omega)) (lw_V q989 q990 q991 q126 q992) 2 rfl rfl ⟨rfl, by decide, by decide, by decide +kernel⟩ ⟨Nat.le_of_ble_eq_true rfl, Nat.le_of_ble_eq_true rfl⟩ ⟨by first | exact Nat.le_of_ble_eq_true rfl | (simp only [rm_X10_next, rm_J11_charAt, rm_J11_length]; omega), by first | exact Nat.le_of_ble_eq_true rfl | (simp only [rm_X10_next, rm_J11_charAt, rm_J11_length]; omega)⟩ dX10_next_28 (Nat.le_of_ble_eq_true rfl) rfl rfl) (fun r_2 u_2 H locs h_2 hP hD hS => ?_)
    have hP : va_P G.1 vwCl [oX r 9 [.ref fo, .int (nI many), .int (nI at_), .ref h], oC h ad sn hsh, oX (ad 10) 12 [.ref (ad 28), .int (nI 0), .int (bI ml), .int (nI len)], aB G (ad 28) 60 (nF ch)] _ := hP
    have hD : va_D A [oX r 9 [.ref fo, .int (nI many), .int (nI at_), .ref h], oC h ad sn hsh, oX (ad 10) 12 [.ref (ad 28), .int (nI 0), .int (bI ml), .int (nI len)], aB G (ad 28) 60 (nF ch)] := hD
    have h_2 : r_2 = (nI (ch at_)) := h_2
    rw [h_2]
    refine lv_goto (tgt := 35) hx hb dX10_next_31 (by decide) ?_
    rw [hQQ]
    exact rt_i hx hb hr hlk  ((())) dX10_next_35 hP hD hS (by first | exact Nat.le_of_ble_eq_true rfl | (simp only [rm_X10_next, rm_J11_length, rm_J11_charAt]; omega) | omega) (by first | exact Nat.le_of_ble_eq_true rfl | (simp only [rm_X10_next, rm_J11_length, rm_J11_charAt]; omega) | omega) (by first | rw [nx_1 (by omega)] | rw [nx_0 (by omega)])
def rm_X10_takes : Room := ({ frames := 5, cells := 0, slots := 0, locals := 170 } : Room)
set_option maxHeartbeats 400000 in
set_option maxRecDepth 100000 in
theorem t_X10_takes (l : Launch) (G : GG) (b0 sz : Nat) (r fo many at_ h len : Nat) (ad : Nat → Nat) (sn : Value) (hsh : Int64) (ml : Bool) (ch : Nat → Nat) (sg : Nat) (hat : at_ ≤ len) (hle : len ≤ 60) (hch : ∀ j, j < len → ch j ≤ 126) (hsg : 0 < sg ∧ sg < 128) : CT l yX10_takes cX10_takes 3 (some FieldType.boolean) (rm_X10_takes) G b0 [.ref r, .int (nI sg)] [oX r 9 [.ref fo, .int (nI many), .int (nI at_), .ref h], oC h ad sn hsh, oX (ad 10) 12 [.ref (ad 28), .int (nI 0), .int (bI ml), .int (nI len)], aB G (ad 28) 60 (nF ch)] sz (Ri G (fun (r_ : Int32) (_ : Unit) => r_ = bI (sgB ch len at_ sg)) (fun (_ : Unit) => [oX r 9 [.ref fo, .int (nI many), .int (nI (sgA ch len at_ sg)), .ref h], oC h ad sn hsh, oX (ad 10) 12 [.ref (ad 28), .int (nI 0), .int (bI ml), .int (nI len)], aB G (ad 28) 60 (nF ch)])) := by
  refine CT.go (by decide) (Nat.le_of_ble_eq_true rfl) (fun p e s m below meth c A ls AR QQ hx hb hr hlk hml hown hnm hts hE hA hAb hsz hP hD hS hl hQQ => ?_)
  have hK := hE.1
  have hown : s.vm.findClass RX10 = some m.cls := hown
  have hl : lv_has ls 3 [(0, .ref r), (1, .int (nI sg))] := hl
  clear hsz
  refine lv_aload_n hx hb dX10_takes_0 rfl (lv_at hl 0 rfl) ?_
  refine fin_i (ws' := (fun (_ : Unit) => [oX r 9 [.ref fo, .int (nI many), .int (nI at_), .ref h], oC h ad sn hsh, oX (ad 10) 12 [.ref (ad 28), .int (nI 0), .int (bI ml), .int (nI len)], aB G (ad 28) 60 (nF ch)])) hA hS hP hD [0, 1, 2, 3] rfl [(true, 0), (true, 1), (true, 2), (true, 3)] (fun _ => rfl) (by decide) (run_V (As := []) (rest := []) (n9 := 0) hx hb hml hown hts hE hAb hl.1 hS hP hD [0, 1, 2, 3] rfl (by decide) (t_X10_next l G b0 _ r fo many at_ h len ad sn hsh ml ch (by omega) (by omega) (by exact hch)) (lw_V q984 q986 qs10 q142 q987) 0 rfl rfl ⟨rfl, by decide, by decide, by decide +kernel⟩ ⟨Nat.le_of_ble_eq_true rfl, Nat.le_of_ble_eq_true rfl⟩ ⟨by first | exact Nat.le_of_ble_eq_true rfl | (simp only [rm_X10_takes, rm_X10_next]; omega), by first | exact Nat.le_of_ble_eq_true rfl | (simp only [rm_X10_takes, rm_X10_next]; omega)⟩ dX10_takes_1 (Nat.le_of_ble_eq_true rfl) rfl rfl) (fun r_1 u_1 H locs h_1 hP hD hS => ?_)
  have hP : va_P G.1 vwCl [oX r 9 [.ref fo, .int (nI many), .int (nI at_), .ref h], oC h ad sn hsh, oX (ad 10) 12 [.ref (ad 28), .int (nI 0), .int (bI ml), .int (nI len)], aB G (ad 28) 60 (nF ch)] _ := hP
  have hD : va_D A [oX r 9 [.ref fo, .int (nI many), .int (nI at_), .ref h], oC h ad sn hsh, oX (ad 10) 12 [.ref (ad 28), .int (nI 0), .int (bI ml), .int (nI len)], aB G (ad 28) 60 (nF ch)] := hD
  have h_1 : r_1 = (nI (nxC ch len at_)) := h_1
  rw [h_1]
  refine lv_iload_n hx hb dX10_takes_4 rfl (lv_at hl 1 rfl) ?_
  have hnx := nxC_lt (i := at_) hch
  refine N_icmp_ne (tgt := 12) hx hb dX10_takes_5 (by decide) (by omega) (by omega) (fun c_5 => ?_) (fun c_5 => ?_)
  · skip
    have hsg1 := sg_f hat c_5
    refine lv_iconst (v := nI 0) hx hb dX10_takes_12 (by decide) ?_
    refine lv_istore_n (lv' := [(2, .int (nI 0)), (0, .ref r), (1, .int (nI sg))]) hx hb dX10_takes_13 rfl hl (by decide) rfl (fun ls hl => ?_)
    refine lv_aload_n hx hb dX10_takes_14 rfl (lv_at hl 1 rfl) ?_
    refine lv_dup hx hb dX10_takes_15 rfl ?_
    refine va_get (D := G.1) (ci := 9) (v := .int (nI at_)) (C := RX10) (T := TX10) (N := 4) hx hb hts in_X10 hown hK hP 0 rfl rfl 2 (by decide) (hts _ q964) (fun _ h9 => h9) rfl dX10_takes_16 ?_
    refine lv_iload_n hx hb dX10_takes_19 rfl (lv_at hl 0 rfl) ?_
    refine N_if_eq (tgt := 27) hx hb dX10_takes_20 (by decide) (by omega) (fun c_20 => ?_) (fun c_20 => ?_)
    · skip
      refine lv_iconst (v := nI 0) hx hb dX10_takes_27 (by decide) ?_
      refine N_iadd hx hb dX10_takes_28 ?_
      refine va_put (D := G.1) (ci := 9) (v := .int (nI at_)) (ty := .int) (C := RX10) (T := TX10) (N := 4) hx hb hts in_X10 tyX10 tyX10_ok nmX10 hown hK hP hD hS 0 rfl rfl 2 (by decide) (hts _ q964) (fun _ h9 => h9) rfl (by decide +kernel) rfl rfl (Nat.le_of_ble_eq_true rfl) dX10_takes_29 (fun H locs hP hD hS => ?_)
      have hP : va_P G.1 vwCl [oX r 9 [.ref fo, .int (nI many), .int (nI at_), .ref h], oC h ad sn hsh, oX (ad 10) 12 [.ref (ad 28), .int (nI 0), .int (bI ml), .int (nI len)], aB G (ad 28) 60 (nF ch)] _ := hP
      have hD : va_D A [oX r 9 [.ref fo, .int (nI many), .int (nI at_), .ref h], oC h ad sn hsh, oX (ad 10) 12 [.ref (ad 28), .int (nI 0), .int (bI ml), .int (nI len)], aB G (ad 28) 60 (nF ch)] := hD
      refine lv_iload_n hx hb dX10_takes_32 rfl (lv_at hl 0 rfl) ?_
      have e_2 : (at_) = (sgA ch len at_ sg) := by (rw [hsg1.2])
      rw [e_2] at hP hD
      have hP : va_P G.1 vwCl [oX r 9 [.ref fo, .int (nI many), .int (nI (sgA ch len at_ sg)), .ref h], oC h ad sn hsh, oX (ad 10) 12 [.ref (ad 28), .int (nI 0), .int (bI ml), .int (nI len)], aB G (ad 28) 60 (nF ch)] _ := hP
      have hD : va_D A [oX r 9 [.ref fo, .int (nI many), .int (nI (sgA ch len at_ sg)), .ref h], oC h ad sn hsh, oX (ad 10) 12 [.ref (ad 28), .int (nI 0), .int (bI ml), .int (nI len)], aB G (ad 28) 60 (nF ch)] := hD
      rw [hQQ]
      exact rt_z hx hb hr hlk (by first | exact bI_nar _ | rfl) ((())) dX10_takes_33 hP hD hS (by first | exact Nat.le_of_ble_eq_true rfl | (simp only [rm_X10_takes, rm_X10_next]; omega) | omega) (by first | exact Nat.le_of_ble_eq_true rfl | (simp only [rm_X10_takes, rm_X10_next]; omega) | omega) (by (rw [hsg1.1]; rfl))
    · skip
      exfalso; omega
  · skip
    have hsg1 := sg_t hsg.1 hat c_5
    refine lv_iconst (v := nI 1) hx hb dX10_takes_8 (by decide) ?_
    refine lv_goto (tgt := 13) hx hb dX10_takes_9 (by decide) ?_
    refine lv_istore_n (lv' := [(2, .int (nI 1)), (0, .ref r), (1, .int (nI sg))]) hx hb dX10_takes_13 rfl hl (by decide) rfl (fun ls hl => ?_)
    refine lv_aload_n hx hb dX10_takes_14 rfl (lv_at hl 1 rfl) ?_
    refine lv_dup hx hb dX10_takes_15 rfl ?_
    refine va_get (D := G.1) (ci := 9) (v := .int (nI at_)) (C := RX10) (T := TX10) (N := 4) hx hb hts in_X10 hown hK hP 0 rfl rfl 2 (by decide) (hts _ q964) (fun _ h9 => h9) rfl dX10_takes_16 ?_
    refine lv_iload_n hx hb dX10_takes_19 rfl (lv_at hl 0 rfl) ?_
    refine N_if_eq (tgt := 27) hx hb dX10_takes_20 (by decide) (by omega) (fun c_20 => ?_) (fun c_20 => ?_)
    · skip
      exfalso; omega
    · skip
      refine lv_iconst (v := nI 1) hx hb dX10_takes_23 (by decide) ?_
      refine lv_goto (tgt := 28) hx hb dX10_takes_24 (by decide) ?_
      refine N_iadd hx hb dX10_takes_28 ?_
      refine va_put (D := G.1) (ci := 9) (v := .int (nI (at_ + 1))) (ty := .int) (C := RX10) (T := TX10) (N := 4) hx hb hts in_X10 tyX10 tyX10_ok nmX10 hown hK hP hD hS 0 rfl rfl 2 (by decide) (hts _ q964) (fun _ h9 => h9) rfl (by decide +kernel) rfl rfl (Nat.le_of_ble_eq_true rfl) dX10_takes_29 (fun H locs hP hD hS => ?_)
      have hP : va_P G.1 vwCl [oX r 9 [.ref fo, .int (nI many), .int (nI (at_ + 1)), .ref h], oC h ad sn hsh, oX (ad 10) 12 [.ref (ad 28), .int (nI 0), .int (bI ml), .int (nI len)], aB G (ad 28) 60 (nF ch)] _ := hP
      have hD : va_D A [oX r 9 [.ref fo, .int (nI many), .int (nI (at_ + 1)), .ref h], oC h ad sn hsh, oX (ad 10) 12 [.ref (ad 28), .int (nI 0), .int (bI ml), .int (nI len)], aB G (ad 28) 60 (nF ch)] := hD
      refine lv_iload_n hx hb dX10_takes_32 rfl (lv_at hl 0 rfl) ?_
      have e_3 : (at_ + 1) = (sgA ch len at_ sg) := by (rw [hsg1.2])
      rw [e_3] at hP hD
      have hP : va_P G.1 vwCl [oX r 9 [.ref fo, .int (nI many), .int (nI (sgA ch len at_ sg)), .ref h], oC h ad sn hsh, oX (ad 10) 12 [.ref (ad 28), .int (nI 0), .int (bI ml), .int (nI len)], aB G (ad 28) 60 (nF ch)] _ := hP
      have hD : va_D A [oX r 9 [.ref fo, .int (nI many), .int (nI (sgA ch len at_ sg)), .ref h], oC h ad sn hsh, oX (ad 10) 12 [.ref (ad 28), .int (nI 0), .int (bI ml), .int (nI len)], aB G (ad 28) 60 (nF ch)] := hD
      rw [hQQ]
      exact rt_z hx hb hr hlk (by first | exact bI_nar _ | rfl) ((())) dX10_takes_33 hP hD hS (by first | exact Nat.le_of_ble_eq_true rfl | (simp only [rm_X10_takes, rm_X10_next]; omega) | omega) (by first | exact Nat.le_of_ble_eq_true rfl | (simp only [rm_X10_takes, rm_X10_next]; omega) | omega) (by (rw [hsg1.1]; rfl))
def rm_X10_put : Room := ({ frames := 0, cells := 0, slots := 0, locals := 0 } : Room)
set_option maxHeartbeats 400000 in
set_option maxRecDepth 100000 in
theorem t_X10_put (l : Launch) (G : GG) (b0 sz : Nat) (r fo many at_ h sl : Nat) (fd : Nat → Int32) (v : Int32) (hmy : many ≤ 59) (hsl : sl ≤ 3) : CT l yX10_put cX10_put 3 (some FieldType.boolean) (rm_X10_put) G b0 [.ref r, .int (nI sl), .int v] [oX r 9 [.ref fo, .int (nI many), .int (nI at_), .ref h], aI G fo 240 fd] sz (Ri G (fun (r_ : Int32) (_ : Unit) => r_ = bI (if v = (-1000) then false else true)) (fun (_ : Unit) => [oX r 9 [.ref fo, .int (nI many), .int (nI at_), .ref h], aI G fo 240 (upd fd (4 * many + sl) v)])) := by
  refine CT.go (by decide) (Nat.le_of_ble_eq_true rfl) (fun p e s m below meth c A ls AR QQ hx hb hr hlk hml hown hnm hts hE hA hAb hsz hP hD hS hl hQQ => ?_)
  have hK := hE.1
  have hown : s.vm.findClass RX10 = some m.cls := hown
  have hl : lv_has ls 3 [(0, .ref r), (1, .int (nI sl)), (2, .int v)] := hl
  clear hsz
  refine lv_aload_n hx hb dX10_put_0 rfl (lv_at hl 0 rfl) ?_
  refine va_get (D := G.1) (ci := 9) (v := .ref fo) (C := RX10) (T := TX10) (N := 4) hx hb hts in_X10 hown hK hP 0 rfl rfl 0 (by decide) (hts _ q960) (fun _ h9 => h9) rfl dX10_put_1 ?_
  refine lv_iconst (v := nI 4) hx hb dX10_put_4 (by decide) ?_
  refine lv_aload_n hx hb dX10_put_5 rfl (lv_at hl 0 rfl) ?_
  refine va_get (D := G.1) (ci := 9) (v := .int (nI many)) (C := RX10) (T := TX10) (N := 4) hx hb hts in_X10 hown hK hP 0 rfl rfl 1 (by decide) (hts _ q962) (fun _ h9 => h9) rfl dX10_put_6 ?_
  refine N_imul hx hb dX10_put_9 ?_
  refine lv_iload_n hx hb dX10_put_10 rfl (lv_at hl 1 rfl) ?_
  refine N_iadd hx hb dX10_put_11 ?_
  refine lv_iload_n hx hb dX10_put_12 rfl (lv_at hl 2 rfl) ?_
  refine N_iast (ws' := [oX r 9 [.ref fo, .int (nI many), .int (nI at_), .ref h], aI G fo 240 (upd fd ((4 * many) + sl) v)]) hx hb dX10_put_13 hK hP hD hS 1 0 rfl rfl (by omega) (by omega) rfl (fun H locs hP hD hS => ?_)
  refine lv_iload_n hx hb dX10_put_14 rfl (lv_at hl 2 rfl) ?_
  refine lv_sipush (v := (-1000)) hx hb dX10_put_15 (by decide) ?_
  refine lv_icmp_eq (tgt := 25) hx hb dX10_put_18 (by decide) (fun c_18 => ?_) (fun c_18 => ?_)
  · skip
    refine lv_iconst (v := nI 0) hx hb dX10_put_25 (by decide) ?_
    have hP : va_P G.1 vwCl [oX r 9 [.ref fo, .int (nI many), .int (nI at_), .ref h], aI G fo 240 (upd fd (4 * many + sl) v)] _ := hP
    have hD : va_D A [oX r 9 [.ref fo, .int (nI many), .int (nI at_), .ref h], aI G fo 240 (upd fd (4 * many + sl) v)] := hD
    rw [hQQ]
    exact rt_z hx hb hr hlk (by first | exact bI_nar _ | rfl) ((())) dX10_put_26 hP hD hS (by first | exact Nat.le_of_ble_eq_true rfl | (simp only [rm_X10_put]; omega) | omega) (by first | exact Nat.le_of_ble_eq_true rfl | (simp only [rm_X10_put]; omega) | omega) (by first | exact bI_of1 (by rw [if_neg c_18]) | exact bI_of0 (by rw [if_pos c_18]))
  · skip
    refine lv_iconst (v := nI 1) hx hb dX10_put_21 (by decide) ?_
    refine lv_goto (tgt := 26) hx hb dX10_put_22 (by decide) ?_
    have hP : va_P G.1 vwCl [oX r 9 [.ref fo, .int (nI many), .int (nI at_), .ref h], aI G fo 240 (upd fd (4 * many + sl) v)] _ := hP
    have hD : va_D A [oX r 9 [.ref fo, .int (nI many), .int (nI at_), .ref h], aI G fo 240 (upd fd (4 * many + sl) v)] := hD
    rw [hQQ]
    exact rt_z hx hb hr hlk (by first | exact bI_nar _ | rfl) ((())) dX10_put_26 hP hD hS (by first | exact Nat.le_of_ble_eq_true rfl | (simp only [rm_X10_put]; omega) | omega) (by first | exact Nat.le_of_ble_eq_true rfl | (simp only [rm_X10_put]; omega) | omega) (by first | exact bI_of1 (by rw [if_neg c_18]) | exact bI_of0 (by rw [if_pos c_18]))
def rm_X10_number : Room := ({ frames := 5, cells := 0, slots := 0, locals := 170 } : Room)
set_option maxHeartbeats 400000 in
set_option maxRecDepth 100000 in
theorem t_X10_number (l : Launch) (G : GG) (b0 sz : Nat) (r fo many at_ h len : Nat) (ad : Nat → Nat) (sn : Value) (hsh : Int64) (ml : Bool) (ch : Nat → Nat) (lo hi_ : Nat) (hat : at_ ≤ len) (hle : len ≤ 60) (hch : ∀ j, j < len → ch j ≤ 126) (hlo : lo ≤ 1) (hhi : hi_ ≤ 255) : CT l yX10_number cX10_number 4 (some FieldType.int) (rm_X10_number) G b0 [.ref r, .int (nI lo), .int (nI hi_)] [oX r 9 [.ref fo, .int (nI many), .int (nI at_), .ref h], oC h ad sn hsh, oX (ad 10) 12 [.ref (ad 28), .int (nI 0), .int (bI ml), .int (nI len)], aB G (ad 28) 60 (nF ch)] sz (Ri G (fun (r_ : Int32) (_ : Unit) => r_ = rvI (rdR ch len lo hi_ at_).1 (rdR ch len lo hi_ at_).2.1) (fun (_ : Unit) => [oX r 9 [.ref fo, .int (nI many), .int (nI ((rdR ch len lo hi_ at_).2.2)), .ref h], oC h ad sn hsh, oX (ad 10) 12 [.ref (ad 28), .int (nI 0), .int (bI ml), .int (nI len)], aB G (ad 28) 60 (nF ch)])) := by
  refine CT.go (by decide) (Nat.le_of_ble_eq_true rfl) (fun p e s m below meth c A ls AR QQ hx hb hr hlk hml hown hnm hts hE hA hAb hsz hP hD hS hl hQQ => ?_)
  have hK := hE.1
  have hown : s.vm.findClass RX10 = some m.cls := hown
  have hl : lv_has ls 4 [(0, .ref r), (1, .int (nI lo)), (2, .int (nI hi_))] := hl
  clear hsz
  refine lv_sipush (v := (-1000)) hx hb dX10_number_0 (by decide) ?_
  refine lv_istore_n (lv' := [(3, .int ((-1000))), (0, .ref r), (1, .int (nI lo)), (2, .int (nI hi_))]) hx hb dX10_number_3 rfl hl (by decide) rfl (fun ls hl => ?_)
  have lp_4 : ∀ (n_4 : Nat) (n_ i_ : Nat) (b_ : Bool), (i_ ≤ len) → (n_ ≤ 255) → (b_ = false → n_ = 0) → (numF ch len lo hi_ (61 - i_) b_ n_ i_ = rdR ch len lo hi_ at_) → (61 - i_) < n_4 → ∀ (H : Heap) (locs : List Loc) (ls : Array Slot), va_P G.1 vwCl [oX r 9 [.ref fo, .int (nI many), .int (nI i_), .ref h], oC h ad sn hsh, oX (ad 10) 12 [.ref (ad 28), .int (nI 0), .int (bI ml), .int (nI len)], aB G (ad 28) 60 (nF ch)] H → va_D A [oX r 9 [.ref fo, .int (nI many), .int (nI i_), .ref h], oC h ad sn hsh, oX (ad 10) 12 [.ref (ad 28), .int (nI 0), .int (bI ml), .int (nI len)], aB G (ad 28) 60 (nF ch)] → va_S A s.heap H locs → lv_has ls 4 [(0, .ref r), (1, .int (nI lo)), (2, .int (nI hi_)), (3, .int (rvI b_ n_))] → W p l e (rm_X10_number) s m AR below meth c H locs 0 0 QQ (F0 m 4 ls []) := by
    intro n_4
    induction n_4 with
    | zero => intro n_ i_ b_ hi hn hb0 hj hn_; exact absurd hn_ (Nat.not_lt_zero _)
    | succ n_4 ih_4 =>
      intro n_ i_ b_ hi hn hb0 hj hn_4 H locs ls hP hD hS hl
      refine lv_aload_n hx hb dX10_number_4 rfl (lv_at hl 0 rfl) ?_
      refine fin_i (ws' := (fun (_ : Unit) => [oX r 9 [.ref fo, .int (nI many), .int (nI i_), .ref h], oC h ad sn hsh, oX (ad 10) 12 [.ref (ad 28), .int (nI 0), .int (bI ml), .int (nI len)], aB G (ad 28) 60 (nF ch)])) hA hS hP hD [0, 1, 2, 3] rfl [(true, 0), (true, 1), (true, 2), (true, 3)] (fun _ => rfl) (by decide) (run_V (As := []) (rest := []) (n9 := 0) hx hb hml hown hts hE hAb hl.1 hS hP hD [0, 1, 2, 3] rfl (by decide) (t_X10_next l G b0 _ r fo many i_ h len ad sn hsh ml ch (by omega) (by omega) (by exact hch)) (lw_V q984 q986 qs10 q142 q987) 0 rfl rfl ⟨rfl, by decide, by decide, by decide +kernel⟩ ⟨Nat.le_of_ble_eq_true rfl, Nat.le_of_ble_eq_true rfl⟩ ⟨by first | exact Nat.le_of_ble_eq_true rfl | (simp only [rm_X10_number, rm_X10_next]; omega), by first | exact Nat.le_of_ble_eq_true rfl | (simp only [rm_X10_number, rm_X10_next]; omega)⟩ dX10_number_5 (Nat.le_of_ble_eq_true rfl) rfl rfl) (fun r_1 u_1 H locs h_1 hP hD hS => ?_)
      have hP : va_P G.1 vwCl [oX r 9 [.ref fo, .int (nI many), .int (nI i_), .ref h], oC h ad sn hsh, oX (ad 10) 12 [.ref (ad 28), .int (nI 0), .int (bI ml), .int (nI len)], aB G (ad 28) 60 (nF ch)] _ := hP
      have hD : va_D A [oX r 9 [.ref fo, .int (nI many), .int (nI i_), .ref h], oC h ad sn hsh, oX (ad 10) 12 [.ref (ad 28), .int (nI 0), .int (bI ml), .int (nI len)], aB G (ad 28) 60 (nF ch)] := hD
      have h_1 : r_1 = (nI (nxC ch len i_)) := h_1
      rw [h_1]
      have hnx := nxC_lt (i := i_) hch
      refine lv_bipush (v := nI 48) hx hb dX10_number_8 (by decide) ?_
      refine lv_bipush (v := nI 57) hx hb dX10_number_10 (by decide) ?_
      refine fin_i (ws' := (fun (_ : Unit) => [oX r 9 [.ref fo, .int (nI many), .int (nI i_), .ref h], oC h ad sn hsh, oX (ad 10) 12 [.ref (ad 28), .int (nI 0), .int (bI ml), .int (nI len)], aB G (ad 28) 60 (nF ch)])) hA hS hP hD [] rfl [(false, 0), (false, 1), (false, 2), (false, 3)] (fun _ => rfl) (by decide) (run_SN (As := [.int (nI (nxC ch len i_)), .int (nI 48), .int (nI 57)]) (rest := []) (n9 := 3) (host := "CrumbPictures") hx hb hml hown hts hE hAb hl.1 hS hP hD [] rfl (by decide) (t_X1_in l G b0 _ (nI (nxC ch len i_)) (nI 48) (nI 57) ) (lw_meth q1020) q1018 q106 q1019 ⟨by decide, by decide, by decide +kernel⟩ ⟨Nat.le_of_ble_eq_true rfl, Nat.le_of_ble_eq_true rfl⟩ ⟨by first | exact Nat.le_of_ble_eq_true rfl | (simp only [rm_X10_number, rm_X1_in, rm_X10_next]; omega), by first | exact Nat.le_of_ble_eq_true rfl | (simp only [rm_X10_number, rm_X1_in, rm_X10_next]; omega)⟩ dX10_number_12 (Nat.le_of_ble_eq_true rfl) rfl rfl) (fun r_2 u_2 H locs h_2 hP hD hS => ?_)
      have hP : va_P G.1 vwCl [oX r 9 [.ref fo, .int (nI many), .int (nI i_), .ref h], oC h ad sn hsh, oX (ad 10) 12 [.ref (ad 28), .int (nI 0), .int (bI ml), .int (nI len)], aB G (ad 28) 60 (nF ch)] _ := hP
      have hD : va_D A [oX r 9 [.ref fo, .int (nI many), .int (nI i_), .ref h], oC h ad sn hsh, oX (ad 10) 12 [.ref (ad 28), .int (nI 0), .int (bI ml), .int (nI len)], aB G (ad 28) 60 (nF ch)] := hD
      have h_2 : r_2 = (bI (inB (nI (nxC ch len i_)) (nI 48) (nI 57))) := h_2
      rw [h_2]
      refine B_if_eq (tgt := 76) hx hb dX10_number_15 (by decide) (fun c_15 => ?_) (fun c_15 => ?_)
      · skip
        have hfin : (b_, n_, i_) = rdR ch len lo hi_ at_ := by first | exact rn_o1 (by omega) hj (fun z => nx_out hch c_15 ⟨z.1, z.2.1, z.2.2.1⟩) | exact rn_z (by omega) hj (rv_0 (by omega) c_19) | exact rn_x (by omega) hj hlo hb0 hd2 (fun z => (rn_in (by omega) (by omega) (by omega) c_43).2 rfl ⟨by omega, by omega⟩)
        refine lv_iload_n hx hb dX10_number_76 rfl (lv_at hl 3 rfl) ?_
        have e_3 : (i_) = ((rdR ch len lo hi_ at_).2.2) := by rw [← hfin]
        rw [e_3] at hP hD
        have hP : va_P G.1 vwCl [oX r 9 [.ref fo, .int (nI many), .int (nI ((rdR ch len lo hi_ at_).2.2)), .ref h], oC h ad sn hsh, oX (ad 10) 12 [.ref (ad 28), .int (nI 0), .int (bI ml), .int (nI len)], aB G (ad 28) 60 (nF ch)] _ := hP
        have hD : va_D A [oX r 9 [.ref fo, .int (nI many), .int (nI ((rdR ch len lo hi_ at_).2.2)), .ref h], oC h ad sn hsh, oX (ad 10) 12 [.ref (ad 28), .int (nI 0), .int (bI ml), .int (nI len)], aB G (ad 28) 60 (nF ch)] := hD
        rw [hQQ]
        exact rt_i hx hb hr hlk  ((())) dX10_number_77 hP hD hS (by first | exact Nat.le_of_ble_eq_true rfl | (simp only [rm_X10_number, rm_X10_next, rm_X1_in]; omega) | omega) (by first | exact Nat.le_of_ble_eq_true rfl | (simp only [rm_X10_number, rm_X10_next, rm_X1_in]; omega) | omega) (by rw [← hfin])
      · skip
        obtain ⟨hd1, hd2, hd3, hd4⟩ := nx_in hch c_15
        refine lv_iload_n hx hb dX10_number_18 rfl (lv_at hl 3 rfl) ?_
        refine lv_if_eq (tgt := 76) hx hb dX10_number_19 (by decide) (fun c_19 => ?_) (fun c_19 => ?_)
        · skip
          have hfin : (b_, n_, i_) = rdR ch len lo hi_ at_ := by first | exact rn_o1 (by omega) hj (fun z => nx_out hch c_15 ⟨z.1, z.2.1, z.2.2.1⟩) | exact rn_z (by omega) hj (rv_0 (by omega) c_19) | exact rn_x (by omega) hj hlo hb0 hd2 (fun z => (rn_in (by omega) (by omega) (by omega) c_43).2 rfl ⟨by omega, by omega⟩)
          refine lv_iload_n hx hb dX10_number_76 rfl (lv_at hl 3 rfl) ?_
          have e_4 : (i_) = ((rdR ch len lo hi_ at_).2.2) := by rw [← hfin]
          rw [e_4] at hP hD
          have hP : va_P G.1 vwCl [oX r 9 [.ref fo, .int (nI many), .int (nI ((rdR ch len lo hi_ at_).2.2)), .ref h], oC h ad sn hsh, oX (ad 10) 12 [.ref (ad 28), .int (nI 0), .int (bI ml), .int (nI len)], aB G (ad 28) 60 (nF ch)] _ := hP
          have hD : va_D A [oX r 9 [.ref fo, .int (nI many), .int (nI ((rdR ch len lo hi_ at_).2.2)), .ref h], oC h ad sn hsh, oX (ad 10) 12 [.ref (ad 28), .int (nI 0), .int (bI ml), .int (nI len)], aB G (ad 28) 60 (nF ch)] := hD
          rw [hQQ]
          exact rt_i hx hb hr hlk  ((())) dX10_number_77 hP hD hS (by first | exact Nat.le_of_ble_eq_true rfl | (simp only [rm_X10_number, rm_X10_next, rm_X1_in]; omega) | omega) (by first | exact Nat.le_of_ble_eq_true rfl | (simp only [rm_X10_number, rm_X10_next, rm_X1_in]; omega) | omega) (by rw [← hfin])
        · skip
          have hbn := rv_n0 (by omega) c_19
          refine lv_bipush (v := nI 10) hx hb dX10_number_22 (by decide) ?_
          refine lv_iconst (v := nI 0) hx hb dX10_number_24 (by decide) ?_
          refine lv_iload_n hx hb dX10_number_25 rfl (lv_at hl 3 rfl) ?_
          refine M_max hx hb (hml.trans hl.1.symm) hown hts q1021 q586 q137 q587 (Nat.le_of_ble_eq_true rfl) (Nat.le_of_ble_eq_true rfl) (by first | exact Nat.le_of_ble_eq_true rfl | omega | (simp only [rm_X10_number, rm_X10_next, rm_X1_in]; omega)) (by first | exact Nat.le_of_ble_eq_true rfl | omega | (simp only [rm_X10_number, rm_X10_next, rm_X1_in]; omega)) dX10_number_26 ?_
          refine W.eq (g2 := F0 m 29 ls [.int (nI n_), .int (nI 10)]) (by rw [rv_mx hb0 (by omega)]) ?_
          refine N_imul hx hb dX10_number_29 ?_
          refine lv_aload_n hx hb dX10_number_30 rfl (lv_at hl 0 rfl) ?_
          refine fin_i (ws' := (fun (_ : Unit) => [oX r 9 [.ref fo, .int (nI many), .int (nI i_), .ref h], oC h ad sn hsh, oX (ad 10) 12 [.ref (ad 28), .int (nI 0), .int (bI ml), .int (nI len)], aB G (ad 28) 60 (nF ch)])) hA hS hP hD [0, 1, 2, 3] rfl [(true, 0), (true, 1), (true, 2), (true, 3)] (fun _ => rfl) (by decide) (run_V (As := []) (rest := [.int (nI (10 * n_))]) (n9 := 0) hx hb hml hown hts hE hAb hl.1 hS hP hD [0, 1, 2, 3] rfl (by decide) (t_X10_next l G b0 _ r fo many i_ h len ad sn hsh ml ch (by omega) (by omega) (by exact hch)) (lw_V q984 q986 qs10 q142 q987) 0 rfl rfl ⟨rfl, by decide, by decide, by decide +kernel⟩ ⟨Nat.le_of_ble_eq_true rfl, Nat.le_of_ble_eq_true rfl⟩ ⟨by first | exact Nat.le_of_ble_eq_true rfl | (simp only [rm_X10_number, rm_X10_next, rm_X1_in]; omega), by first | exact Nat.le_of_ble_eq_true rfl | (simp only [rm_X10_number, rm_X10_next, rm_X1_in]; omega)⟩ dX10_number_31 (Nat.le_of_ble_eq_true rfl) rfl rfl) (fun r_5 u_5 H locs h_5 hP hD hS => ?_)
          have hP : va_P G.1 vwCl [oX r 9 [.ref fo, .int (nI many), .int (nI i_), .ref h], oC h ad sn hsh, oX (ad 10) 12 [.ref (ad 28), .int (nI 0), .int (bI ml), .int (nI len)], aB G (ad 28) 60 (nF ch)] _ := hP
          have hD : va_D A [oX r 9 [.ref fo, .int (nI many), .int (nI i_), .ref h], oC h ad sn hsh, oX (ad 10) 12 [.ref (ad 28), .int (nI 0), .int (bI ml), .int (nI len)], aB G (ad 28) 60 (nF ch)] := hD
          have h_5 : r_5 = (nI (nxC ch len i_)) := h_5
          rw [h_5]
          refine W.eq (g2 := F0 m 34 ls [.int (nI (ch i_)), .int (nI (10 * n_))]) (by rw [hd4]) ?_
          refine N_iadd hx hb dX10_number_34 ?_
          refine lv_bipush (v := nI 48) hx hb dX10_number_35 (by decide) ?_
          refine N_isub hx hb dX10_number_37 (by omega) ?_
          refine lv_iload_n hx hb dX10_number_38 rfl (lv_at hl 1 rfl) ?_
          refine lv_iload_n hx hb dX10_number_39 rfl (lv_at hl 2 rfl) ?_
          refine fin_i (ws' := (fun (_ : Unit) => [oX r 9 [.ref fo, .int (nI many), .int (nI i_), .ref h], oC h ad sn hsh, oX (ad 10) 12 [.ref (ad 28), .int (nI 0), .int (bI ml), .int (nI len)], aB G (ad 28) 60 (nF ch)])) hA hS hP hD [] rfl [(false, 0), (false, 1), (false, 2), (false, 3)] (fun _ => rfl) (by decide) (run_SN (As := [.int (nI (((10 * n_) + (ch i_)) - 48)), .int (nI lo), .int (nI hi_)]) (rest := []) (n9 := 3) (host := "CrumbPictures") hx hb hml hown hts hE hAb hl.1 hS hP hD [] rfl (by decide) (t_X1_in l G b0 _ (nI (((10 * n_) + (ch i_)) - 48)) (nI lo) (nI hi_) ) (lw_meth q1020) q1018 q106 q1019 ⟨by decide, by decide, by decide +kernel⟩ ⟨Nat.le_of_ble_eq_true rfl, Nat.le_of_ble_eq_true rfl⟩ ⟨by first | exact Nat.le_of_ble_eq_true rfl | (simp only [rm_X10_number, rm_X1_in, rm_X10_next]; omega), by first | exact Nat.le_of_ble_eq_true rfl | (simp only [rm_X10_number, rm_X1_in, rm_X10_next]; omega)⟩ dX10_number_40 (Nat.le_of_ble_eq_true rfl) rfl rfl) (fun r_6 u_6 H locs h_6 hP hD hS => ?_)
          have hP : va_P G.1 vwCl [oX r 9 [.ref fo, .int (nI many), .int (nI i_), .ref h], oC h ad sn hsh, oX (ad 10) 12 [.ref (ad 28), .int (nI 0), .int (bI ml), .int (nI len)], aB G (ad 28) 60 (nF ch)] _ := hP
          have hD : va_D A [oX r 9 [.ref fo, .int (nI many), .int (nI i_), .ref h], oC h ad sn hsh, oX (ad 10) 12 [.ref (ad 28), .int (nI 0), .int (bI ml), .int (nI len)], aB G (ad 28) 60 (nF ch)] := hD
          have h_6 : r_6 = (bI (inB (nI (((10 * n_) + (ch i_)) - 48)) (nI lo) (nI hi_))) := h_6
          rw [h_6]
          refine B_if_eq (tgt := 76) hx hb dX10_number_43 (by decide) (fun c_43 => ?_) (fun c_43 => ?_)
          · skip
            have hfin : (b_, n_, i_) = rdR ch len lo hi_ at_ := by first | exact rn_o1 (by omega) hj (fun z => nx_out hch c_15 ⟨z.1, z.2.1, z.2.2.1⟩) | exact rn_z (by omega) hj (rv_0 (by omega) c_19) | exact rn_x (by omega) hj hlo hb0 hd2 (fun z => (rn_in (by omega) (by omega) (by omega) c_43).2 rfl ⟨by omega, by omega⟩)
            refine lv_iload_n hx hb dX10_number_76 rfl (lv_at hl 3 rfl) ?_
            have e_7 : (i_) = ((rdR ch len lo hi_ at_).2.2) := by rw [← hfin]
            rw [e_7] at hP hD
            have hP : va_P G.1 vwCl [oX r 9 [.ref fo, .int (nI many), .int (nI ((rdR ch len lo hi_ at_).2.2)), .ref h], oC h ad sn hsh, oX (ad 10) 12 [.ref (ad 28), .int (nI 0), .int (bI ml), .int (nI len)], aB G (ad 28) 60 (nF ch)] _ := hP
            have hD : va_D A [oX r 9 [.ref fo, .int (nI many), .int (nI ((rdR ch len lo hi_ at_).2.2)), .ref h], oC h ad sn hsh, oX (ad 10) 12 [.ref (ad 28), .int (nI 0), .int (bI ml), .int (nI len)], aB G (ad 28) 60 (nF ch)] := hD
            rw [hQQ]
            exact rt_i hx hb hr hlk  ((())) dX10_number_77 hP hD hS (by first | exact Nat.le_of_ble_eq_true rfl | (simp only [rm_X10_number, rm_X10_next, rm_X1_in]; omega) | omega) (by first | exact Nat.le_of_ble_eq_true rfl | (simp only [rm_X10_number, rm_X10_next, rm_X1_in]; omega) | omega) (by rw [← hfin])
          · skip
            have hlh := (rn_in (by omega) (by omega) (by omega) c_43).1 rfl
            refine lv_bipush (v := nI 10) hx hb dX10_number_46 (by decide) ?_
            refine lv_iconst (v := nI 0) hx hb dX10_number_48 (by decide) ?_
            refine lv_iload_n hx hb dX10_number_49 rfl (lv_at hl 3 rfl) ?_
            refine M_max hx hb (hml.trans hl.1.symm) hown hts q1021 q586 q137 q587 (Nat.le_of_ble_eq_true rfl) (Nat.le_of_ble_eq_true rfl) (by first | exact Nat.le_of_ble_eq_true rfl | omega | (simp only [rm_X10_number, rm_X10_next, rm_X1_in]; omega)) (by first | exact Nat.le_of_ble_eq_true rfl | omega | (simp only [rm_X10_number, rm_X10_next, rm_X1_in]; omega)) dX10_number_50 ?_
            refine W.eq (g2 := F0 m 53 ls [.int (nI n_), .int (nI 10)]) (by rw [rv_mx hb0 (by omega)]) ?_
            refine N_imul hx hb dX10_number_53 ?_
            refine lv_aload_n hx hb dX10_number_54 rfl (lv_at hl 0 rfl) ?_
            refine fin_i (ws' := (fun (_ : Unit) => [oX r 9 [.ref fo, .int (nI many), .int (nI i_), .ref h], oC h ad sn hsh, oX (ad 10) 12 [.ref (ad 28), .int (nI 0), .int (bI ml), .int (nI len)], aB G (ad 28) 60 (nF ch)])) hA hS hP hD [0, 1, 2, 3] rfl [(true, 0), (true, 1), (true, 2), (true, 3)] (fun _ => rfl) (by decide) (run_V (As := []) (rest := [.int (nI (10 * n_))]) (n9 := 0) hx hb hml hown hts hE hAb hl.1 hS hP hD [0, 1, 2, 3] rfl (by decide) (t_X10_next l G b0 _ r fo many i_ h len ad sn hsh ml ch (by omega) (by omega) (by exact hch)) (lw_V q984 q986 qs10 q142 q987) 0 rfl rfl ⟨rfl, by decide, by decide, by decide +kernel⟩ ⟨Nat.le_of_ble_eq_true rfl, Nat.le_of_ble_eq_true rfl⟩ ⟨by first | exact Nat.le_of_ble_eq_true rfl | (simp only [rm_X10_number, rm_X10_next, rm_X1_in]; omega), by first | exact Nat.le_of_ble_eq_true rfl | (simp only [rm_X10_number, rm_X10_next, rm_X1_in]; omega)⟩ dX10_number_55 (Nat.le_of_ble_eq_true rfl) rfl rfl) (fun r_8 u_8 H locs h_8 hP hD hS => ?_)
            have hP : va_P G.1 vwCl [oX r 9 [.ref fo, .int (nI many), .int (nI i_), .ref h], oC h ad sn hsh, oX (ad 10) 12 [.ref (ad 28), .int (nI 0), .int (bI ml), .int (nI len)], aB G (ad 28) 60 (nF ch)] _ := hP
            have hD : va_D A [oX r 9 [.ref fo, .int (nI many), .int (nI i_), .ref h], oC h ad sn hsh, oX (ad 10) 12 [.ref (ad 28), .int (nI 0), .int (bI ml), .int (nI len)], aB G (ad 28) 60 (nF ch)] := hD
            have h_8 : r_8 = (nI (nxC ch len i_)) := h_8
            rw [h_8]
            refine W.eq (g2 := F0 m 58 ls [.int (nI (ch i_)), .int (nI (10 * n_))]) (by rw [hd4]) ?_
            refine N_iadd hx hb dX10_number_58 ?_
            refine lv_bipush (v := nI 48) hx hb dX10_number_59 (by decide) ?_
            refine N_isub hx hb dX10_number_61 (by omega) ?_
            refine lv_istore_n (lv' := [(3, .int (nI (((10 * n_) + (ch i_)) - 48))), (0, .ref r), (1, .int (nI lo)), (2, .int (nI hi_))]) hx hb dX10_number_62 rfl hl (by decide) rfl (fun ls hl => ?_)
            refine lv_aload_n hx hb dX10_number_63 rfl (lv_at hl 1 rfl) ?_
            refine lv_dup hx hb dX10_number_64 rfl ?_
            refine va_get (D := G.1) (ci := 9) (v := .int (nI i_)) (C := RX10) (T := TX10) (N := 4) hx hb hts in_X10 hown hK hP 0 rfl rfl 2 (by decide) (hts _ q964) (fun _ h9 => h9) rfl dX10_number_65 ?_
            refine lv_iconst (v := nI 1) hx hb dX10_number_68 (by decide) ?_
            refine N_iadd hx hb dX10_number_69 ?_
            refine va_put (D := G.1) (ci := 9) (v := .int (nI (i_ + 1))) (ty := .int) (C := RX10) (T := TX10) (N := 4) hx hb hts in_X10 tyX10 tyX10_ok nmX10 hown hK hP hD hS 0 rfl rfl 2 (by decide) (hts _ q964) (fun _ h9 => h9) rfl (by decide +kernel) rfl rfl (Nat.le_of_ble_eq_true rfl) dX10_number_70 (fun H locs hP hD hS => ?_)
            have hP : va_P G.1 vwCl [oX r 9 [.ref fo, .int (nI many), .int (nI (i_ + 1)), .ref h], oC h ad sn hsh, oX (ad 10) 12 [.ref (ad 28), .int (nI 0), .int (bI ml), .int (nI len)], aB G (ad 28) 60 (nF ch)] _ := hP
            have hD : va_D A [oX r 9 [.ref fo, .int (nI many), .int (nI (i_ + 1)), .ref h], oC h ad sn hsh, oX (ad 10) 12 [.ref (ad 28), .int (nI 0), .int (bI ml), .int (nI len)], aB G (ad 28) 60 (nF ch)] := hD
            refine lv_goto (tgt := 4) hx hb dX10_number_73 (by decide) ?_
            have hl : lv_has ls 4 [(0, .ref r), (1, .int (nI lo)), (2, .int (nI hi_)), (3, .int (nI (((10 * n_) + (ch i_)) - 48)))] := lv_sub hl [1, 2, 3, 0] rfl
            have e_9 : (nI (((10 * n_) + (ch i_)) - 48)) = (rvI true (((10 * n_) + (ch i_)) - 48)) := by rfl
            rw [e_9] at hl
            have hl : lv_has ls 4 [(0, .ref r), (1, .int (nI lo)), (2, .int (nI hi_)), (3, .int (rvI true (((10 * n_) + (ch i_)) - 48)))] := hl
            exact ih_4 (((10 * n_) + (ch i_)) - 48) (i_ + 1) true (by omega) (by omega) (by exact fun z => by cases z) (by exact rn_go (by omega) hj hbn hb0 ⟨hd1, hd2, hd3⟩ hlh (by omega)) (by omega) _ _ _ hP hD hS hl
  have hl : lv_has ls 4 [(0, .ref r), (1, .int (nI lo)), (2, .int (nI hi_)), (3, .int ((-1000)))] := lv_sub hl [1, 2, 3, 0] rfl
  have e_10 : ((-1000)) = (rvI false 0) := by rfl
  rw [e_10] at hl
  have hl : lv_has ls 4 [(0, .ref r), (1, .int (nI lo)), (2, .int (nI hi_)), (3, .int (rvI false 0))] := hl
  exact lp_4 _ 0 at_ false (by omega) (by omega) (by exact fun _ => rfl) (by rfl) (Nat.lt_succ_self _) _ _ _ hP hD hS hl
