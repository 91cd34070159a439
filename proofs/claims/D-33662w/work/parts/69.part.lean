/-! ===== the component: parts of a text ===== -/
section LOK
variable {p : Program} {l : Launch} {e : Jvm.Env} {R : Room} {s : State} {m : MethodId} {args : Array Value} {below : List Frame} {meth : Method} {c : Code} {H : Heap} {locs : List Loc} {cells slots : Nat} {Q : State → Prop}
variable {cc : ByteArray} {pc : Nat} {ls : Array Slot} {rest : List Value}
theorem lok_d {x d : Int} : ∀ (ps : List (Int × Int)), (∀ q ∈ ps, q.1 ≠ x) → Op.lookupswitch.offset ps d x = d := by
  intro ps
  induction ps with
  | nil => intro _; rfl
  | cons q ps ih =>
    intro h
    have h1 := h q (List.mem_cons_self ..)
    obtain ⟨a, o⟩ := q
    rw [Op.lookupswitch.offset_cons, if_neg (by intro z; first | exact h1 z | exact h1 z.symm)]
    exact ih (fun q hq => h q (List.mem_cons_of_mem _ hq))
theorem N_lokD {dflt : Int} {ps : Array (Int × Int)} {len x tgt : Nat} (hx : p.tables.exec = Jvm.exec) (hb : c.code = cc) (hdg : decode cc pc = .ok (.lookupswitch dflt ps, len)) (hp : (ps.toList.zip (ps.toList.drop 1)).all (fun (a, next) => a.1 < next.1) = true) (hxx : x < 2147483648) (hn : ∀ q ∈ ps.toList, q.1 ≠ (x : Int)) (ht : (pc : Int) + dflt = (tgt : Int)) (k : W p l e R s m args below meth c H locs cells slots Q (F0 m tgt ls rest)) : W p l e R s m args below meth c H locs cells slots Q (F0 m pc ls (.int (nI x) :: rest)) :=
  lv_lookup hx hb hdg hp (by rw [nI_toInt hxx]; exact lok_d _ hn) ht k
end LOK
theorem rv_b {b : Bool} {n : Nat} (h : n ≤ 255) : (if rvI b n = (-1000) then false else true) = b := by
  cases b with
  | true => rw [if_neg (fun z => by have := (rv_m h).mp z; cases this)]
  | false => rw [if_pos (show rvI false n = (-1000) from rfl)]
def dfV (s b : Bool) (n : Nat) : Int32 := if s = true then (if rvI b n = (-1000) then rvI b n else -(rvI b n)) else rvI b n
theorem df_t {s : Bool} {n : Nat} (h : n ≤ 255) : dfV s true n = if s = true then -(nI n) else nI n := by
  cases s with
  | true =>
    show (if rvI true n = (-1000) then rvI true n else -(rvI true n)) = -(nI n)
    rw [if_neg (fun z => by have := (rv_m h).mp z; cases this)]
    rfl
  | false => rfl
theorem df_b {s b : Bool} {n : Nat} (h : n ≤ 255) : (if dfV s b n = (-1000) then false else true) = b := by
  cases b with
  | true =>
    rw [df_t h, if_neg]
    intro z
    have z2 := congrArg Int32.toInt z
    have h0 : ((-1000) : Int32).toInt = -1000 := by decide
    have h1 : (nI n).toInt = (n : Int) := nI_toInt (by omega)
    have h2 : (-(nI n)).toInt = -(n : Int) := by
      rw [Int32.toInt_neg, h1]
      exact Int.bmod_eq_of_le (by omega) (by omega)
    cases s with
    | true => rw [if_pos rfl, h2, h0] at z2; omega
    | false => rw [if_neg (by decide), h1, h0] at z2; omega
  | false =>
    rw [if_pos]
    cases s <;> rfl
theorem cl_v1 {f : Nat → Int32} {m n : Nat} {b : Bool} {v : Int32} (h : b = true) : upd (upd f (4 * m + 1) (rvI b n)) (4 * m + 2) v (4 * m + 1) = nI n := by
  unfold upd
  rw [if_neg (by omega), if_pos rfl, h]
  rfl
theorem cl_v2 {f : Nat → Int32} {m n : Nat} {b : Bool} (h : b = true) : upd f (4 * m + 2) (rvI b n) (4 * m + 2) = nI n := by
  unfold upd
  rw [if_pos rfl, h]
  rfl
/-- where the sign behind a cell was read -/
def eqP (ch : Nat → Nat) (len i : Nat) : Nat := sgA ch len (clR ch len i).2 61
theorem eqP_at {ch : Nat → Nat} {len i : Nat} (h : i ≤ len) : eqP ch len i ≤ len := (sgA_le (clR_at h)).1
theorem as_1 {ch : Nat → Nat} {len i : Nat} {b : Bool} (c : (clR ch len i).1 = false) : asgO ch len b i = false ∧ asgP ch len b i = (clR ch len i).2 := by
  unfold asgO asgP
  rw [cel_f c]
  exact ⟨rfl, rfl⟩
theorem as_2 {ch : Nat → Nat} {len i : Nat} {b : Bool} (c : (clR ch len i).1 = true) (d : sgB ch len (clR ch len i).2 61 = false) : asgO ch len b i = false ∧ asgP ch len b i = eqP ch len i := by
  unfold asgO asgP
  rw [cel_t c, d]
  exact ⟨rfl, rfl⟩
theorem as_p {ch : Nat → Nat} {len i : Nat} (c : (clR ch len i).1 = true) (d : sgB ch len (clR ch len i).2 61 = true) : asgO ch len false i = (rdR ch len 0 255 (eqP ch len i)).1 ∧ asgP ch len false i = (rdR ch len 0 255 (eqP ch len i)).2.2 ∧ (celR ch len i).2.2.1 = clX ch len i ∧ (celR ch len i).2.2.2 = clY ch len i ∧ asgV ch len false i = nI (rdR ch len 0 255 (eqP ch len i)).2.1 := by
  unfold asgO asgP asgV asgN
  rw [cel_t c, d]
  exact ⟨rfl, rfl, rfl, rfl, rfl⟩
def dfR (ch : Nat → Nat) (len i : Nat) : Bool × Nat × Nat := rdR ch len (asgL (sgB ch len i 45)) 255 (sgA ch len i 45)
theorem as_d {ch : Nat → Nat} {len i : Nat} (hi : i ≤ len) (c : (clR ch len i).1 = true) (d : sgB ch len (clR ch len i).2 61 = true) : asgO ch len true i = (dfR ch len (eqP ch len i)).1 ∧ asgP ch len true i = (dfR ch len (eqP ch len i)).2.2 ∧ (celR ch len i).2.2.1 = clX ch len i ∧ (celR ch len i).2.2.2 = clY ch len i ∧ asgV ch len true i = dfV (sgB ch len (eqP ch len i) 45) true (dfR ch len (eqP ch len i)).2.1 := by
  have e : ∀ j, asgM ch len true j = sgB ch len j 45 := fun j => by
    unfold asgM
    rw [if_pos rfl]
    cases sgB ch len j 45 <;> rfl
  have hb : (dfR ch len (eqP ch len i)).2.1 ≤ 255 := (rdR_at (sgA_le (eqP_at hi)).1).2.1
  rw [df_t hb]
  unfold asgO asgP asgV asgN
  rw [cel_t c, d, e]
  exact ⟨rfl, rfl, rfl, rfl, rfl⟩
/-- what follows a part's letter -/
def rsB (ch : Nat → Nat) (len c i : Nat) : Bool := if c = 100 then asgO ch len true i else if c = 108 then (rdR ch len 1 3 i).1 else if c = 112 then asgO ch len false i else if c = 116 then (rdR ch len 0 255 i).1 else true
def rsP (ch : Nat → Nat) (len c i : Nat) : Nat := if c = 100 then asgP ch len true i else if c = 108 then (rdR ch len 1 3 i).2.2 else if c = 112 then asgP ch len false i else if c = 116 then (rdR ch len 0 255 i).2.2 else i
def fdD (ch : Nat → Nat) (len c i m : Nat) (u : Nat → Int32) : Prop := (c = 100 ∨ c = 112 → u (4 * m + 1) = nI (celR ch len i).2.2.1 ∧ u (4 * m + 2) = nI (celR ch len i).2.2.2 ∧ u (4 * m + 3) = asgV ch len (decide (c = 100)) i) ∧ (c = 108 → u (4 * m + 1) = nI (rdR ch len 1 3 i).2.1) ∧ (c = 116 → u (4 * m + 1) = nI (rdR ch len 0 255 i).2.1)
theorem rs_d {ch : Nat → Nat} {len c i : Nat} (h : c = 100) : rsB ch len c i = asgO ch len true i ∧ rsP ch len c i = asgP ch len true i := by
  unfold rsB rsP
  rw [if_pos h, if_pos h]
  exact ⟨rfl, rfl⟩
theorem rs_p {ch : Nat → Nat} {len c i : Nat} (h : c = 112) : rsB ch len c i = asgO ch len false i ∧ rsP ch len c i = asgP ch len false i := by
  unfold rsB rsP
  rw [h]
  exact ⟨rfl, rfl⟩
theorem rs_l {ch : Nat → Nat} {len c i : Nat} (h : c = 108) : rsB ch len c i = (rdR ch len 1 3 i).1 ∧ rsP ch len c i = (rdR ch len 1 3 i).2.2 := by
  unfold rsB rsP
  rw [h]
  exact ⟨rfl, rfl⟩
theorem rs_t {ch : Nat → Nat} {len c i : Nat} (h : c = 116) : rsB ch len c i = (rdR ch len 0 255 i).1 ∧ rsP ch len c i = (rdR ch len 0 255 i).2.2 := by
  unfold rsB rsP
  rw [h]
  exact ⟨rfl, rfl⟩
theorem rs_o {ch : Nat → Nat} {len c i : Nat} (h : c ≠ 100 ∧ c ≠ 108 ∧ c ≠ 112 ∧ c ≠ 116) : rsB ch len c i = true ∧ rsP ch len c i = i := by
  unfold rsB rsP
  rw [if_neg h.1, if_neg h.2.1, if_neg h.2.2.1, if_neg h.2.2.2, if_neg h.1, if_neg h.2.1, if_neg h.2.2.1, if_neg h.2.2.2]
  exact ⟨rfl, rfl⟩
theorem fd_as {ch : Nat → Nat} {len c i m : Nat} {u : Nat → Int32} {v : Int32} {b : Bool} (hc : c = 100 ∧ b = true ∨ c = 112 ∧ b = false) (h1 : u (4 * m + 1) = nI (clX ch len i)) (h2 : u (4 * m + 2) = nI (clY ch len i)) (e1 : (celR ch len i).2.2.1 = clX ch len i) (e2 : (celR ch len i).2.2.2 = clY ch len i) (e3 : asgV ch len b i = v) : fdD ch len c i m (upd u (4 * m + 3) v) := by
  have hb : decide (c = 100) = b := by
    rcases hc with ⟨a, e⟩ | ⟨a, e⟩
    · rw [e]; exact decide_eq_true a
    · rw [e]; exact decide_eq_false (by omega)
  refine ⟨fun _ => ⟨?_, ?_, ?_⟩, fun z => by omega, fun z => by omega⟩
  · unfold upd; rw [if_neg (by omega), h1, e1]
  · unfold upd; rw [if_neg (by omega), h2, e2]
  · unfold upd; rw [if_pos rfl, hb, e3]
theorem fd_1 {ch : Nat → Nat} {len c i m lo hi : Nat} {f : Nat → Int32} {b : Bool} (hc : c = 108 ∧ lo = 1 ∧ hi = 3 ∨ c = 116 ∧ lo = 0 ∧ hi = 255) (h : b = true) : fdD ch len c i m (upd f (4 * m + 1) (rvI b (rdR ch len lo hi i).2.1)) := by
  refine ⟨fun z => by omega, fun z => ?_, fun z => ?_⟩
  · unfold upd
    rw [if_pos rfl, h]
    rcases hc with ⟨_, e, e'⟩ | ⟨a, _, _⟩
    · rw [e, e']; rfl
    · omega
  · unfold upd
    rw [if_pos rfl, h]
    rcases hc with ⟨a, _, _⟩ | ⟨_, e, e'⟩
    · omega
    · rw [e, e']; rfl
def sgnB (c : Nat) : Bool := decide (c = 112 ∨ c = 100 ∨ c = 116 ∨ c = 108 ∨ c = 114 ∨ c = 109 ∨ c = 105)
theorem pt_t {ch : Nat → Nat} {len i : Nat} (h : sgnB (nxC ch len i) = true) : i < len ∧ nxC ch len i = ch i ∧ ptO ch len i = (rsB ch len (ch i) (i + 1), rsP ch len (ch i) (i + 1)) := by
  have h9 := of_decide_eq_true h
  have hl : i < len := by
    by_cases z : i < len
    · exact z
    · rw [nx_0 z] at h9; omega
  rw [nx_1 hl] at h9
  refine ⟨hl, nx_1 hl, ?_⟩
  unfold ptO
  rw [if_neg (by omega)]
  rcases h9 with e | e | e | e | e | e | e
  · rw [(rs_p e).1, (rs_p e).2, if_neg (by omega), if_neg (by omega), if_neg (by omega), if_neg (by omega), if_pos e]
  · rw [(rs_d e).1, (rs_d e).2, if_pos e]
  · rw [(rs_t e).1, (rs_t e).2, if_neg (by omega), if_neg (by omega), if_neg (by omega), if_neg (by omega), if_neg (by omega), if_neg (by omega), if_pos e]
  · rw [(rs_l e).1, (rs_l e).2, if_neg (by omega), if_neg (by omega), if_pos e]
  · rw [(rs_o (by omega)).1, (rs_o (by omega)).2, if_neg (by omega), if_neg (by omega), if_neg (by omega), if_neg (by omega), if_neg (by omega), if_pos e]
  · rw [(rs_o (by omega)).1, (rs_o (by omega)).2, if_neg (by omega), if_neg (by omega), if_neg (by omega), if_pos e]
  · rw [(rs_o (by omega)).1, (rs_o (by omega)).2, if_neg (by omega), if_pos e]
theorem pt_f {ch : Nat → Nat} {len i : Nat} (hi : i ≤ len) (h : sgnB (nxC ch len i) = false) : ptO ch len i = (false, i) := by
  have h9 := of_decide_eq_false h
  unfold ptO
  by_cases z : i = len
  · rw [if_pos z]
  · rw [nx_1 (by omega)] at h9
    rw [if_neg z, if_neg (by omega), if_neg (by omega), if_neg (by omega), if_neg (by omega), if_neg (by omega), if_neg (by omega), if_neg (by omega)]
def rm_X10_cell : Room := ({ frames := 6, cells := 0, slots := 0, locals := 200 } : Room)
set_option maxHeartbeats 400000 in
set_option maxRecDepth 100000 in
theorem t_X10_cell (l : Launch) (G : GG) (b0 sz : Nat) (r fo many at_ h len : Nat) (ad : Nat → Nat) (sn : Value) (hsh : Int64) (ml : Bool) (ch : Nat → Nat) (fd : Nat → Int32) (hat : at_ ≤ len) (hle : len ≤ 60) (hch : ∀ j, j < len → ch j ≤ 126) (hmy : many ≤ 59) : CT l yX10_cell cX10_cell 1 (some FieldType.boolean) (rm_X10_cell) G b0 [.ref r] [oX r 9 [.ref fo, .int (nI many), .int (nI at_), .ref h], aI G fo 240 fd, oC h ad sn hsh, oX (ad 10) 12 [.ref (ad 28), .int (nI 0), .int (bI ml), .int (nI len)], aB G (ad 28) 60 (nF ch)] sz (Ri G (fun (r_ : Int32) (u : Nat → Int32) => r_ = bI ((clR ch len at_).1) ∧ fdS many fd u ∧ ((clR ch len at_).1 = true → u (4 * many + 1) = nI (clX ch len at_) ∧ u (4 * many + 2) = nI (clY ch len at_))) (fun (u : Nat → Int32) => [oX r 9 [.ref fo, .int (nI many), .int (nI ((clR ch len at_).2)), .ref h], aI G fo 240 u, oC h ad sn hsh, oX (ad 10) 12 [.ref (ad 28), .int (nI 0), .int (bI ml), .int (nI len)], aB G (ad 28) 60 (nF ch)])) := by
  refine CT.go (by decide) (Nat.le_of_ble_eq_true rfl) (fun p e s m below meth c A ls AR QQ hx hb hr hlk hml hown hnm hts hE hA hAb hsz hP hD hS hl hQQ => ?_)
  have hK := hE.1
  have hown : s.vm.findClass RX10 = some m.cls := hown
  have hl : lv_has ls 1 [(0, .ref r)] := hl
  clear hsz
  have hr1 := rdR_at (ch := ch) (lo := 0) (hi := 7) hat
  have hr2 := sgA_le (ch := ch) (c := 46) hr1.1
  have hr3 := rdR_at (ch := ch) (lo := 0) (hi := 7) hr2.1
  refine lv_aload_n hx hb dX10_cell_0 rfl (lv_at hl 0 rfl) ?_
  refine lv_iconst (v := nI 1) hx hb dX10_cell_1 (by decide) ?_
  refine lv_aload_n hx hb dX10_cell_2 rfl (lv_at hl 0 rfl) ?_
  refine lv_iconst (v := nI 0) hx hb dX10_cell_3 (by decide) ?_
  refine lv_bipush (v := nI 7) hx hb dX10_cell_4 (by decide) ?_
  refine fin_i (ws' := (fun (_ : Unit) => [oX r 9 [.ref fo, .int (nI many), .int (nI ((rdR ch len 0 7 at_).2.2)), .ref h], aI G fo 240 fd, oC h ad sn hsh, oX (ad 10) 12 [.ref (ad 28), .int (nI 0), .int (bI ml), .int (nI len)], aB G (ad 28) 60 (nF ch)])) hA hS hP hD [0, 2, 3, 4] rfl [(true, 0), (false, 1), (true, 1), (true, 2), (true, 3)] (fun _ => rfl) (by decide) (run_V (As := [.int (nI 0), .int (nI 7)]) (rest := [.int (nI 1), .ref r]) (n9 := 2) hx hb hml hown hts hE hAb hl.1 hS hP hD [0, 2, 3, 4] rfl (by decide) (t_X10_number l G b0 _ r fo many at_ h len ad sn hsh ml ch 0 7 (by omega) (by omega) (by exact hch) (by omega) (by omega)) (lw_V q1014 q1016 qs14 q142 q1017) 0 rfl rfl ⟨rfl, by decide, by decide, by decide +kernel⟩ ⟨Nat.le_of_ble_eq_true rfl, Nat.le_of_ble_eq_true rfl⟩ ⟨by first | exact Nat.le_of_ble_eq_true rfl | (simp only [rm_X10_cell, rm_X10_number]; omega), by first | exact Nat.le_of_ble_eq_true rfl | (simp only [rm_X10_cell, rm_X10_number]; omega)⟩ dX10_cell_6 (Nat.le_of_ble_eq_true rfl) rfl rfl) (fun r_1 u_1 H locs h_1 hP hD hS => ?_)
  have hP : va_P G.1 vwCl [oX r 9 [.ref fo, .int (nI many), .int (nI ((rdR ch len 0 7 at_).2.2)), .ref h], aI G fo 240 fd, oC h ad sn hsh, oX (ad 10) 12 [.ref (ad 28), .int (nI 0), .int (bI ml), .int (nI len)], aB G (ad 28) 60 (nF ch)] _ := hP
  have hD : va_D A [oX r 9 [.ref fo, .int (nI many), .int (nI ((rdR ch len 0 7 at_).2.2)), .ref h], aI G fo 240 fd, oC h ad sn hsh, oX (ad 10) 12 [.ref (ad 28), .int (nI 0), .int (bI ml), .int (nI len)], aB G (ad 28) 60 (nF ch)] := hD
  have h_1 : r_1 = (rvI (rdR ch len 0 7 at_).1 (rdR ch len 0 7 at_).2.1) := h_1
  rw [h_1]
  refine fin_i (ws' := (fun (_ : Unit) => [oX r 9 [.ref fo, .int (nI many), .int (nI ((rdR ch len 0 7 at_).2.2)), .ref h], aI G fo 240 (upd fd (4 * many + 1) (rvI (rdR ch len 0 7 at_).1 (rdR ch len 0 7 at_).2.1)), oC h ad sn hsh, oX (ad 10) 12 [.ref (ad 28), .int (nI 0), .int (bI ml), .int (nI len)], aB G (ad 28) 60 (nF ch)])) hA hS hP hD [0, 1] rfl [(true, 0), (true, 1), (false, 2), (false, 3), (false, 4)] (fun _ => rfl) (by decide) (run_V (As := [.int (nI 1), .int (rvI (rdR ch len 0 7 at_).1 (rdR ch len 0 7 at_).2.1)]) (rest := []) (n9 := 2) hx hb hml hown hts hE hAb hl.1 hS hP hD [0, 1] rfl (by decide) (t_X10_put l G b0 _ r fo many ((rdR ch len 0 7 at_).2.2) h 1 fd (rvI (rdR ch len 0 7 at_).1 (rdR ch len 0 7 at_).2.1) (by omega) (by omega)) (lw_V q1022 q1024 qs15 q142 q1025) 0 rfl rfl ⟨rfl, by decide, by decide, by decide +kernel⟩ ⟨Nat.le_of_ble_eq_true rfl, Nat.le_of_ble_eq_true rfl⟩ ⟨by first | exact Nat.le_of_ble_eq_true rfl | (simp only [rm_X10_cell, rm_X10_put, rm_X10_number]; omega), by first | exact Nat.le_of_ble_eq_true rfl | (simp only [rm_X10_cell, rm_X10_put, rm_X10_number]; omega)⟩ dX10_cell_9 (Nat.le_of_ble_eq_true rfl) rfl rfl) (fun r_2 u_2 H locs h_2 hP hD hS => ?_)
  have hP : va_P G.1 vwCl [oX r 9 [.ref fo, .int (nI many), .int (nI ((rdR ch len 0 7 at_).2.2)), .ref h], aI G fo 240 (upd fd (4 * many + 1) (rvI (rdR ch len 0 7 at_).1 (rdR ch len 0 7 at_).2.1)), oC h ad sn hsh, oX (ad 10) 12 [.ref (ad 28), .int (nI 0), .int (bI ml), .int (nI len)], aB G (ad 28) 60 (nF ch)] _ := hP
  have hD : va_D A [oX r 9 [.ref fo, .int (nI many), .int (nI ((rdR ch len 0 7 at_).2.2)), .ref h], aI G fo 240 (upd fd (4 * many + 1) (rvI (rdR ch len 0 7 at_).1 (rdR ch len 0 7 at_).2.1)), oC h ad sn hsh, oX (ad 10) 12 [.ref (ad 28), .int (nI 0), .int (bI ml), .int (nI len)], aB G (ad 28) 60 (nF ch)] := hD
  have h_2 : r_2 = (bI (if (rvI (rdR ch len 0 7 at_).1 (rdR ch len 0 7 at_).2.1) = (-1000) then false else true)) := h_2
  rw [h_2]
  refine W.eq (g2 := F0 m 12 ls [.int (bI ((rdR ch len 0 7 at_).1))]) (by rw [rv_b (by omega)]) ?_
  refine B_if_eq (tgt := 43) hx hb dX10_cell_12 (by decide) (fun c_12 => ?_) (fun c_12 => ?_)
  · skip
    refine lv_iconst (v := nI 0) hx hb dX10_cell_43 (by decide) ?_
    have e_3 : ((rdR ch len 0 7 at_).2.2) = ((clR ch len at_).2) := by first | rfl | (unfold clR; skip; (try rw [if_neg (ne_true_of_eq_false c_12)]); (try rw [c_12]); first | done | rfl)
    rw [show [oX r 9 [.ref fo, .int (nI many), .int (nI ((rdR ch len 0 7 at_).2.2)), .ref h], aI G fo 240 (upd fd (4 * many + 1) (rvI (rdR ch len 0 7 at_).1 (rdR ch len 0 7 at_).2.1)), oC h ad sn hsh, oX (ad 10) 12 [.ref (ad 28), .int (nI 0), .int (bI ml), .int (nI len)], aB G (ad 28) 60 (nF ch)] = [oX r 9 [.ref fo, .int (nI many), .int (nI ((clR ch len at_).2)), .ref h], aI G fo 240 (upd fd (4 * many + 1) (rvI (rdR ch len 0 7 at_).1 (rdR ch len 0 7 at_).2.1)), oC h ad sn hsh, oX (ad 10) 12 [.ref (ad 28), .int (nI 0), .int (bI ml), .int (nI len)], aB G (ad 28) 60 (nF ch)] from congrArg (fun z_ => [oX r 9 [.ref fo, .int (nI many), .int (nI z_), .ref h], aI G fo 240 (upd fd (4 * many + 1) (rvI (rdR ch len 0 7 at_).1 (rdR ch len 0 7 at_).2.1)), oC h ad sn hsh, oX (ad 10) 12 [.ref (ad 28), .int (nI 0), .int (bI ml), .int (nI len)], aB G (ad 28) 60 (nF ch)]) e_3] at hP hD
    have hP : va_P G.1 vwCl [oX r 9 [.ref fo, .int (nI many), .int (nI ((clR ch len at_).2)), .ref h], aI G fo 240 (upd fd (4 * many + 1) (rvI (rdR ch len 0 7 at_).1 (rdR ch len 0 7 at_).2.1)), oC h ad sn hsh, oX (ad 10) 12 [.ref (ad 28), .int (nI 0), .int (bI ml), .int (nI len)], aB G (ad 28) 60 (nF ch)] _ := hP
    have hD : va_D A [oX r 9 [.ref fo, .int (nI many), .int (nI ((clR ch len at_).2)), .ref h], aI G fo 240 (upd fd (4 * many + 1) (rvI (rdR ch len 0 7 at_).1 (rdR ch len 0 7 at_).2.1)), oC h ad sn hsh, oX (ad 10) 12 [.ref (ad 28), .int (nI 0), .int (bI ml), .int (nI len)], aB G (ad 28) 60 (nF ch)] := hD
    rw [hQQ]
    exact rt_z hx hb hr hlk (by first | exact bI_nar _ | rfl) ((upd fd (4 * many + 1) (rvI (rdR ch len 0 7 at_).1 (rdR ch len 0 7 at_).2.1))) dX10_cell_44 hP hD hS (by first | exact Nat.le_of_ble_eq_true rfl | (simp only [rm_X10_cell, rm_X10_number, rm_X10_put]; omega) | omega) (by first | exact Nat.le_of_ble_eq_true rfl | (simp only [rm_X10_cell, rm_X10_number, rm_X10_put]; omega) | omega) ⟨(by first | rfl | (unfold clR; skip; (try rw [if_neg (ne_true_of_eq_false c_12)]); (try rw [c_12]); first | done | rfl)), by exact ⟨(by first | exact fdS_u fdS_r (by omega) | exact fdS_u (fdS_u fdS_r (by omega)) (by omega)), (by (intro hf_; unfold clR at hf_; (try unfold clR); skip; (try rw [if_neg (ne_true_of_eq_false c_12)] at hf_); (try rw [c_12] at hf_); skip; (try rw [if_neg (ne_true_of_eq_false c_12)]); first | done | rfl | exact ⟨rfl, rfl⟩ | exact ⟨rfl, rfl, rfl⟩ | exact absurd hf_ Bool.false_ne_true | (cases hf_; done) | exact ⟨cl_v1 c_12, cl_v2 c_36⟩ | (simp at hf_; done)))⟩⟩
  · skip
    refine lv_aload_n hx hb dX10_cell_15 rfl (lv_at hl 0 rfl) ?_
    refine lv_bipush (v := nI 46) hx hb dX10_cell_16 (by decide) ?_
    refine fin_i (ws' := (fun (_ : Unit) => [oX r 9 [.ref fo, .int (nI many), .int (nI (sgA ch len ((rdR ch len 0 7 at_).2.2) 46)), .ref h], aI G fo 240 (upd fd (4 * many + 1) (rvI (rdR ch len 0 7 at_).1 (rdR ch len 0 7 at_).2.1)), oC h ad sn hsh, oX (ad 10) 12 [.ref (ad 28), .int (nI 0), .int (bI ml), .int (nI len)], aB G (ad 28) 60 (nF ch)])) hA hS hP hD [0, 2, 3, 4] rfl [(true, 0), (false, 1), (true, 1), (true, 2), (true, 3)] (fun _ => rfl) (by decide) (run_V (As := [.int (nI 46)]) (rest := []) (n9 := 1) hx hb hml hown hts hE hAb hl.1 hS hP hD [0, 2, 3, 4] rfl (by decide) (t_X10_takes l G b0 _ r fo many ((rdR ch len 0 7 at_).2.2) h len ad sn hsh ml ch 46 (by omega) (by omega) (by exact hch) (by omega)) (lw_V q1026 q1028 qs16 q142 q1029) 0 rfl rfl ⟨rfl, by decide, by decide, by decide +kernel⟩ ⟨Nat.le_of_ble_eq_true rfl, Nat.le_of_ble_eq_true rfl⟩ ⟨by first | exact Nat.le_of_ble_eq_true rfl | (simp only [rm_X10_cell, rm_X10_takes, rm_X10_number, rm_X10_put]; omega), by first | exact Nat.le_of_ble_eq_true rfl | (simp only [rm_X10_cell, rm_X10_takes, rm_X10_number, rm_X10_put]; omega)⟩ dX10_cell_18 (Nat.le_of_ble_eq_true rfl) rfl rfl) (fun r_4 u_4 H locs h_4 hP hD hS => ?_)
    have hP : va_P G.1 vwCl [oX r 9 [.ref fo, .int (nI many), .int (nI (sgA ch len ((rdR ch len 0 7 at_).2.2) 46)), .ref h], aI G fo 240 (upd fd (4 * many + 1) (rvI (rdR ch len 0 7 at_).1 (rdR ch len 0 7 at_).2.1)), oC h ad sn hsh, oX (ad 10) 12 [.ref (ad 28), .int (nI 0), .int (bI ml), .int (nI len)], aB G (ad 28) 60 (nF ch)] _ := hP
    have hD : va_D A [oX r 9 [.ref fo, .int (nI many), .int (nI (sgA ch len ((rdR ch len 0 7 at_).2.2) 46)), .ref h], aI G fo 240 (upd fd (4 * many + 1) (rvI (rdR ch len 0 7 at_).1 (rdR ch len 0 7 at_).2.1)), oC h ad sn hsh, oX (ad 10) 12 [.ref (ad 28), .int (nI 0), .int (bI ml), .int (nI len)], aB G (ad 28) 60 (nF ch)] := hD
    have h_4 : r_4 = (bI (sgB ch len ((rdR ch len 0 7 at_).2.2) 46)) := h_4
    rw [h_4]
    refine B_if_eq (tgt := 43) hx hb dX10_cell_21 (by decide) (fun c_21 => ?_) (fun c_21 => ?_)
    · skip
      refine lv_iconst (v := nI 0) hx hb dX10_cell_43 (by decide) ?_
      have e_5 : (sgA ch len ((rdR ch len 0 7 at_).2.2) 46) = ((clR ch len at_).2) := by first | rfl | (unfold clR; skip; (try rw [if_pos c_12]); (try rw [if_neg (ne_true_of_eq_false c_21)]); (try rw [c_12]); (try rw [c_21]); first | done | rfl)
      rw [show [oX r 9 [.ref fo, .int (nI many), .int (nI (sgA ch len ((rdR ch len 0 7 at_).2.2) 46)), .ref h], aI G fo 240 (upd fd (4 * many + 1) (rvI (rdR ch len 0 7 at_).1 (rdR ch len 0 7 at_).2.1)), oC h ad sn hsh, oX (ad 10) 12 [.ref (ad 28), .int (nI 0), .int (bI ml), .int (nI len)], aB G (ad 28) 60 (nF ch)] = [oX r 9 [.ref fo, .int (nI many), .int (nI ((clR ch len at_).2)), .ref h], aI G fo 240 (upd fd (4 * many + 1) (rvI (rdR ch len 0 7 at_).1 (rdR ch len 0 7 at_).2.1)), oC h ad sn hsh, oX (ad 10) 12 [.ref (ad 28), .int (nI 0), .int (bI ml), .int (nI len)], aB G (ad 28) 60 (nF ch)] from congrArg (fun z_ => [oX r 9 [.ref fo, .int (nI many), .int (nI z_), .ref h], aI G fo 240 (upd fd (4 * many + 1) (rvI (rdR ch len 0 7 at_).1 (rdR ch len 0 7 at_).2.1)), oC h ad sn hsh, oX (ad 10) 12 [.ref (ad 28), .int (nI 0), .int (bI ml), .int (nI len)], aB G (ad 28) 60 (nF ch)]) e_5] at hP hD
      have hP : va_P G.1 vwCl [oX r 9 [.ref fo, .int (nI many), .int (nI ((clR ch len at_).2)), .ref h], aI G fo 240 (upd fd (4 * many + 1) (rvI (rdR ch len 0 7 at_).1 (rdR ch len 0 7 at_).2.1)), oC h ad sn hsh, oX (ad 10) 12 [.ref (ad 28), .int (nI 0), .int (bI ml), .int (nI len)], aB G (ad 28) 60 (nF ch)] _ := hP
      have hD : va_D A [oX r 9 [.ref fo, .int (nI many), .int (nI ((clR ch len at_).2)), .ref h], aI G fo 240 (upd fd (4 * many + 1) (rvI (rdR ch len 0 7 at_).1 (rdR ch len 0 7 at_).2.1)), oC h ad sn hsh, oX (ad 10) 12 [.ref (ad 28), .int (nI 0), .int (bI ml), .int (nI len)], aB G (ad 28) 60 (nF ch)] := hD
      rw [hQQ]
      exact rt_z hx hb hr hlk (by first | exact bI_nar _ | rfl) ((upd fd (4 * many + 1) (rvI (rdR ch len 0 7 at_).1 (rdR ch len 0 7 at_).2.1))) dX10_cell_44 hP hD hS (by first | exact Nat.le_of_ble_eq_true rfl | (simp only [rm_X10_cell, rm_X10_number, rm_X10_put, rm_X10_takes]; omega) | omega) (by first | exact Nat.le_of_ble_eq_true rfl | (simp only [rm_X10_cell, rm_X10_number, rm_X10_put, rm_X10_takes]; omega) | omega) ⟨(by first | rfl | (unfold clR; skip; (try rw [if_pos c_12]); (try rw [if_neg (ne_true_of_eq_false c_21)]); (try rw [c_12]); (try rw [c_21]); first | done | rfl)), by exact ⟨(by first | exact fdS_u fdS_r (by omega) | exact fdS_u (fdS_u fdS_r (by omega)) (by omega)), (by (intro hf_; unfold clR at hf_; (try unfold clR); skip; (try rw [if_pos c_12] at hf_); (try rw [if_neg (ne_true_of_eq_false c_21)] at hf_); (try rw [c_12] at hf_); (try rw [c_21] at hf_); skip; (try rw [if_pos c_12]); (try rw [if_neg (ne_true_of_eq_false c_21)]); first | done | rfl | exact ⟨rfl, rfl⟩ | exact ⟨rfl, rfl, rfl⟩ | exact absurd hf_ Bool.false_ne_true | (cases hf_; done) | exact ⟨cl_v1 c_12, cl_v2 c_36⟩ | (simp at hf_; done)))⟩⟩
    · skip
      refine lv_aload_n hx hb dX10_cell_24 rfl (lv_at hl 0 rfl) ?_
      refine lv_iconst (v := nI 2) hx hb dX10_cell_25 (by decide) ?_
      refine lv_aload_n hx hb dX10_cell_26 rfl (lv_at hl 0 rfl) ?_
      refine lv_iconst (v := nI 0) hx hb dX10_cell_27 (by decide) ?_
      refine lv_bipush (v := nI 7) hx hb dX10_cell_28 (by decide) ?_
      refine fin_i (ws' := (fun (_ : Unit) => [oX r 9 [.ref fo, .int (nI many), .int (nI ((rdR ch len 0 7 (sgA ch len ((rdR ch len 0 7 at_).2.2) 46)).2.2)), .ref h], aI G fo 240 (upd fd (4 * many + 1) (rvI (rdR ch len 0 7 at_).1 (rdR ch len 0 7 at_).2.1)), oC h ad sn hsh, oX (ad 10) 12 [.ref (ad 28), .int (nI 0), .int (bI ml), .int (nI len)], aB G (ad 28) 60 (nF ch)])) hA hS hP hD [0, 2, 3, 4] rfl [(true, 0), (false, 1), (true, 1), (true, 2), (true, 3)] (fun _ => rfl) (by decide) (run_V (As := [.int (nI 0), .int (nI 7)]) (rest := [.int (nI 2), .ref r]) (n9 := 2) hx hb hml hown hts hE hAb hl.1 hS hP hD [0, 2, 3, 4] rfl (by decide) (t_X10_number l G b0 _ r fo many (sgA ch len ((rdR ch len 0 7 at_).2.2) 46) h len ad sn hsh ml ch 0 7 (by omega) (by omega) (by exact hch) (by omega) (by omega)) (lw_V q1014 q1016 qs14 q142 q1017) 0 rfl rfl ⟨rfl, by decide, by decide, by decide +kernel⟩ ⟨Nat.le_of_ble_eq_true rfl, Nat.le_of_ble_eq_true rfl⟩ ⟨by first | exact Nat.le_of_ble_eq_true rfl | (simp only [rm_X10_cell, rm_X10_number, rm_X10_put, rm_X10_takes]; omega), by first | exact Nat.le_of_ble_eq_true rfl | (simp only [rm_X10_cell, rm_X10_number, rm_X10_put, rm_X10_takes]; omega)⟩ dX10_cell_30 (Nat.le_of_ble_eq_true rfl) rfl rfl) (fun r_6 u_6 H locs h_6 hP hD hS => ?_)
      have hP : va_P G.1 vwCl [oX r 9 [.ref fo, .int (nI many), .int (nI ((rdR ch len 0 7 (sgA ch len ((rdR ch len 0 7 at_).2.2) 46)).2.2)), .ref h], aI G fo 240 (upd fd (4 * many + 1) (rvI (rdR ch len 0 7 at_).1 (rdR ch len 0 7 at_).2.1)), oC h ad sn hsh, oX (ad 10) 12 [.ref (ad 28), .int (nI 0), .int (bI ml), .int (nI len)], aB G (ad 28) 60 (nF ch)] _ := hP
      have hD : va_D A [oX r 9 [.ref fo, .int (nI many), .int (nI ((rdR ch len 0 7 (sgA ch len ((rdR ch len 0 7 at_).2.2) 46)).2.2)), .ref h], aI G fo 240 (upd fd (4 * many + 1) (rvI (rdR ch len 0 7 at_).1 (rdR ch len 0 7 at_).2.1)), oC h ad sn hsh, oX (ad 10) 12 [.ref (ad 28), .int (nI 0), .int (bI ml), .int (nI len)], aB G (ad 28) 60 (nF ch)] := hD
      have h_6 : r_6 = (rvI (rdR ch len 0 7 (sgA ch len ((rdR ch len 0 7 at_).2.2) 46)).1 (rdR ch len 0 7 (sgA ch len ((rdR ch len 0 7 at_).2.2) 46)).2.1) := h_6
      rw [h_6]
      refine fin_i (ws' := (fun (_ : Unit) => [oX r 9 [.ref fo, .int (nI many), .int (nI ((rdR ch len 0 7 (sgA ch len ((rdR ch len 0 7 at_).2.2) 46)).2.2)), .ref h], aI G fo 240 (upd (upd fd (4 * many + 1) (rvI (rdR ch len 0 7 at_).1 (rdR ch len 0 7 at_).2.1)) (4 * many + 2) (rvI (rdR ch len 0 7 (sgA ch len ((rdR ch len 0 7 at_).2.2) 46)).1 (rdR ch len 0 7 (sgA ch len ((rdR ch len 0 7 at_).2.2) 46)).2.1)), oC h ad sn hsh, oX (ad 10) 12 [.ref (ad 28), .int (nI 0), .int (bI ml), .int (nI len)], aB G (ad 28) 60 (nF ch)])) hA hS hP hD [0, 1] rfl [(true, 0), (true, 1), (false, 2), (false, 3), (false, 4)] (fun _ => rfl) (by decide) (run_V (As := [.int (nI 2), .int (rvI (rdR ch len 0 7 (sgA ch len ((rdR ch len 0 7 at_).2.2) 46)).1 (rdR ch len 0 7 (sgA ch len ((rdR ch len 0 7 at_).2.2) 46)).2.1)]) (rest := []) (n9 := 2) hx hb hml hown hts hE hAb hl.1 hS hP hD [0, 1] rfl (by decide) (t_X10_put l G b0 _ r fo many ((rdR ch len 0 7 (sgA ch len ((rdR ch len 0 7 at_).2.2) 46)).2.2) h 2 (upd fd (4 * many + 1) (rvI (rdR ch len 0 7 at_).1 (rdR ch len 0 7 at_).2.1)) (rvI (rdR ch len 0 7 (sgA ch len ((rdR ch len 0 7 at_).2.2) 46)).1 (rdR ch len 0 7 (sgA ch len ((rdR ch len 0 7 at_).2.2) 46)).2.1) (by omega) (by omega)) (lw_V q1022 q1024 qs15 q142 q1025) 0 rfl rfl ⟨rfl, by decide, by decide, by decide +kernel⟩ ⟨Nat.le_of_ble_eq_true rfl, Nat.le_of_ble_eq_true rfl⟩ ⟨by first | exact Nat.le_of_ble_eq_true rfl | (simp only [rm_X10_cell, rm_X10_put, rm_X10_number, rm_X10_takes]; omega), by first | exact Nat.le_of_ble_eq_true rfl | (simp only [rm_X10_cell, rm_X10_put, rm_X10_number, rm_X10_takes]; omega)⟩ dX10_cell_33 (Nat.le_of_ble_eq_true rfl) rfl rfl) (fun r_7 u_7 H locs h_7 hP hD hS => ?_)
      have hP : va_P G.1 vwCl [oX r 9 [.ref fo, .int (nI many), .int (nI ((rdR ch len 0 7 (sgA ch len ((rdR ch len 0 7 at_).2.2) 46)).2.2)), .ref h], aI G fo 240 (upd (upd fd (4 * many + 1) (rvI (rdR ch len 0 7 at_).1 (rdR ch len 0 7 at_).2.1)) (4 * many + 2) (rvI (rdR ch len 0 7 (sgA ch len ((rdR ch len 0 7 at_).2.2) 46)).1 (rdR ch len 0 7 (sgA ch len ((rdR ch len 0 7 at_).2.2) 46)).2.1)), oC h ad sn hsh, oX (ad 10) 12 [.ref (ad 28), .int (nI 0), .int (bI ml), .int (nI len)], aB G (ad 28) 60 (nF ch)] _ := hP
      have hD : va_D A [oX r 9 [.ref fo, .int (nI many), .int (nI ((rdR ch len 0 7 (sgA ch len ((rdR ch len 0 7 at_).2.2) 46)).2.2)), .ref h], aI G fo 240 (upd (upd fd (4 * many + 1) (rvI (rdR ch len 0 7 at_).1 (rdR ch len 0 7 at_).2.1)) (4 * many + 2) (rvI (rdR ch len 0 7 (sgA ch len ((rdR ch len 0 7 at_).2.2) 46)).1 (rdR ch len 0 7 (sgA ch len ((rdR ch len 0 7 at_).2.2) 46)).2.1)), oC h ad sn hsh, oX (ad 10) 12 [.ref (ad 28), .int (nI 0), .int (bI ml), .int (nI len)], aB G (ad 28) 60 (nF ch)] := hD
      have h_7 : r_7 = (bI (if (rvI (rdR ch len 0 7 (sgA ch len ((rdR ch len 0 7 at_).2.2) 46)).1 (rdR ch len 0 7 (sgA ch len ((rdR ch len 0 7 at_).2.2) 46)).2.1) = (-1000) then false else true)) := h_7
      rw [h_7]
      refine W.eq (g2 := F0 m 36 ls [.int (bI ((rdR ch len 0 7 (sgA ch len (rdR ch len 0 7 at_).2.2 46)).1))]) (by rw [rv_b (by omega)]) ?_
      refine B_if_eq (tgt := 43) hx hb dX10_cell_36 (by decide) (fun c_36 => ?_) (fun c_36 => ?_)
      · skip
        refine lv_iconst (v := nI 0) hx hb dX10_cell_43 (by decide) ?_
        have e_8 : ((rdR ch len 0 7 (sgA ch len ((rdR ch len 0 7 at_).2.2) 46)).2.2) = ((clR ch len at_).2) := by first | rfl | (unfold clR; skip; (try rw [if_pos c_12]); (try rw [if_pos c_21]); (try rw [if_neg (ne_true_of_eq_false c_36)]); (try rw [c_12]); (try rw [c_21]); (try rw [c_36]); first | done | rfl)
        rw [show [oX r 9 [.ref fo, .int (nI many), .int (nI ((rdR ch len 0 7 (sgA ch len ((rdR ch len 0 7 at_).2.2) 46)).2.2)), .ref h], aI G fo 240 (upd (upd fd (4 * many + 1) (rvI (rdR ch len 0 7 at_).1 (rdR ch len 0 7 at_).2.1)) (4 * many + 2) (rvI (rdR ch len 0 7 (sgA ch len ((rdR ch len 0 7 at_).2.2) 46)).1 (rdR ch len 0 7 (sgA ch len ((rdR ch len 0 7 at_).2.2) 46)).2.1)), oC h ad sn hsh, oX (ad 10) 12 [.ref (ad 28), .int (nI 0), .int (bI ml), .int (nI len)], aB G (ad 28) 60 (nF ch)] = [oX r 9 [.ref fo, .int (nI many), .int (nI ((clR ch len at_).2)), .ref h], aI G fo 240 (upd (upd fd (4 * many + 1) (rvI (rdR ch len 0 7 at_).1 (rdR ch len 0 7 at_).2.1)) (4 * many + 2) (rvI (rdR ch len 0 7 (sgA ch len ((rdR ch len 0 7 at_).2.2) 46)).1 (rdR ch len 0 7 (sgA ch len ((rdR ch len 0 7 at_).2.2) 46)).2.1)), oC h ad sn hsh, oX (ad 10) 12 [.ref (ad 28), .int (nI 0), .int (bI ml), .int (nI len)], aB G (ad 28) 60 (nF ch)] from congrArg (fun z_ => [oX r 9 [.ref fo, .int (nI many), .int (nI z_), .ref h], aI G fo 240 (upd (upd fd (4 * many + 1) (rvI (rdR ch len 0 7 at_).1 (rdR ch len 0 7 at_).2.1)) (4 * many + 2) (rvI (rdR ch len 0 7 (sgA ch len ((rdR ch len 0 7 at_).2.2) 46)).1 (rdR ch len 0 7 (sgA ch len ((rdR ch len 0 7 at_).2.2) 46)).2.1)), oC h ad sn hsh, oX (ad 10) 12 [.ref (ad 28), .int (nI 0), .int (bI ml), .int (nI len)], aB G (ad 28) 60 (nF ch)]) e_8] at hP hD
        have hP : va_P G.1 vwCl [oX r 9 [.ref fo, .int (nI many), .int (nI ((clR ch len at_).2)), .ref h], aI G fo 240 (upd (upd fd (4 * many + 1) (rvI (rdR ch len 0 7 at_).1 (rdR ch len 0 7 at_).2.1)) (4 * many + 2) (rvI (rdR ch len 0 7 (sgA ch len ((rdR ch len 0 7 at_).2.2) 46)).1 (rdR ch len 0 7 (sgA ch len ((rdR ch len 0 7 at_).2.2) 46)).2.1)), oC h ad sn hsh, oX (ad 10) 12 [.ref (ad 28), .int (nI 0), .int (bI ml), .int (nI len)], aB G (ad 28) 60 (nF ch)] _ := hP
        have hD : va_D A [oX r 9 [.ref fo, .int (nI many), .int (nI ((clR ch len at_).2)), .ref h], aI G fo 240 (upd (upd fd (4 * many + 1) (rvI (rdR ch len 0 7 at_).1 (rdR ch len 0 7 at_).2.1)) (4 * many + 2) (rvI (rdR ch len 0 7 (sgA ch len ((rdR ch len 0 7 at_).2.2) 46)).1 (rdR ch len 0 7 (sgA ch len ((rdR ch len 0 7 at_).2.2) 46)).2.1)), oC h ad sn hsh, oX (ad 10) 12 [.ref (ad 28), .int (nI 0), .int (bI ml), .int (nI len)], aB G (ad 28) 60 (nF ch)] := hD
        rw [hQQ]
        exact rt_z hx hb hr hlk (by first | exact bI_nar _ | rfl) ((upd (upd fd (4 * many + 1) (rvI (rdR ch len 0 7 at_).1 (rdR ch len 0 7 at_).2.1)) (4 * many + 2) (rvI (rdR ch len 0 7 (sgA ch len ((rdR ch len 0 7 at_).2.2) 46)).1 (rdR ch len 0 7 (sgA ch len ((rdR ch len 0 7 at_).2.2) 46)).2.1))) dX10_cell_44 hP hD hS (by first | exact Nat.le_of_ble_eq_true rfl | (simp only [rm_X10_cell, rm_X10_number, rm_X10_put, rm_X10_takes]; omega) | omega) (by first | exact Nat.le_of_ble_eq_true rfl | (simp only [rm_X10_cell, rm_X10_number, rm_X10_put, rm_X10_takes]; omega) | omega) ⟨(by first | rfl | (unfold clR; skip; (try rw [if_pos c_12]); (try rw [if_pos c_21]); (try rw [if_neg (ne_true_of_eq_false c_36)]); (try rw [c_12]); (try rw [c_21]); (try rw [c_36]); first | done | rfl)), by exact ⟨(by first | exact fdS_u fdS_r (by omega) | exact fdS_u (fdS_u fdS_r (by omega)) (by omega)), (by (intro hf_; unfold clR at hf_; (try unfold clR); skip; (try rw [if_pos c_12] at hf_); (try rw [if_pos c_21] at hf_); (try rw [if_neg (ne_true_of_eq_false c_36)] at hf_); (try rw [c_12] at hf_); (try rw [c_21] at hf_); (try rw [c_36] at hf_); skip; (try rw [if_pos c_12]); (try rw [if_pos c_21]); (try rw [if_neg (ne_true_of_eq_false c_36)]); first | done | rfl | exact ⟨rfl, rfl⟩ | exact ⟨rfl, rfl, rfl⟩ | exact absurd hf_ Bool.false_ne_true | (cases hf_; done) | exact ⟨cl_v1 c_12, cl_v2 c_36⟩ | (simp at hf_; done)))⟩⟩
      · skip
        refine lv_iconst (v := nI 1) hx hb dX10_cell_39 (by decide) ?_
        refine lv_goto (tgt := 44) hx hb dX10_cell_40 (by decide) ?_
        have e_9 : ((rdR ch len 0 7 (sgA ch len ((rdR ch len 0 7 at_).2.2) 46)).2.2) = ((clR ch len at_).2) := by first | rfl | (unfold clR; skip; (try rw [if_pos c_12]); (try rw [if_pos c_21]); (try rw [if_pos c_36]); (try rw [c_12]); (try rw [c_21]); (try rw [c_36]); first | done | rfl)
        rw [show [oX r 9 [.ref fo, .int (nI many), .int (nI ((rdR ch len 0 7 (sgA ch len ((rdR ch len 0 7 at_).2.2) 46)).2.2)), .ref h], aI G fo 240 (upd (upd fd (4 * many + 1) (rvI (rdR ch len 0 7 at_).1 (rdR ch len 0 7 at_).2.1)) (4 * many + 2) (rvI (rdR ch len 0 7 (sgA ch len ((rdR ch len 0 7 at_).2.2) 46)).1 (rdR ch len 0 7 (sgA ch len ((rdR ch len 0 7 at_).2.2) 46)).2.1)), oC h ad sn hsh, oX (ad 10) 12 [.ref (ad 28), .int (nI 0), .int (bI ml), .int (nI len)], aB G (ad 28) 60 (nF ch)] = [oX r 9 [.ref fo, .int (nI many), .int (nI ((clR ch len at_).2)), .ref h], aI G fo 240 (upd (upd fd (4 * many + 1) (rvI (rdR ch len 0 7 at_).1 (rdR ch len 0 7 at_).2.1)) (4 * many + 2) (rvI (rdR ch len 0 7 (sgA ch len ((rdR ch len 0 7 at_).2.2) 46)).1 (rdR ch len 0 7 (sgA ch len ((rdR ch len 0 7 at_).2.2) 46)).2.1)), oC h ad sn hsh, oX (ad 10) 12 [.ref (ad 28), .int (nI 0), .int (bI ml), .int (nI len)], aB G (ad 28) 60 (nF ch)] from congrArg (fun z_ => [oX r 9 [.ref fo, .int (nI many), .int (nI z_), .ref h], aI G fo 240 (upd (upd fd (4 * many + 1) (rvI (rdR ch len 0 7 at_).1 (rdR ch len 0 7 at_).2.1)) (4 * many + 2) (rvI (rdR ch len 0 7 (sgA ch len ((rdR ch len 0 7 at_).2.2) 46)).1 (rdR ch len 0 7 (sgA ch len ((rdR ch len 0 7 at_).2.2) 46)).2.1)), oC h ad sn hsh, oX (ad 10) 12 [.ref (ad 28), .int (nI 0), .int (bI ml), .int (nI len)], aB G (ad 28) 60 (nF ch)]) e_9] at hP hD
        have hP : va_P G.1 vwCl [oX r 9 [.ref fo, .int (nI many), .int (nI ((clR ch len at_).2)), .ref h], aI G fo 240 (upd (upd fd (4 * many + 1) (rvI (rdR ch len 0 7 at_).1 (rdR ch len 0 7 at_).2.1)) (4 * many + 2) (rvI (rdR ch len 0 7 (sgA ch len ((rdR ch len 0 7 at_).2.2) 46)).1 (rdR ch len 0 7 (sgA ch len ((rdR ch len 0 7 at_).2.2) 46)).2.1)), oC h ad sn hsh, oX (ad 10) 12 [.ref (ad 28), .int (nI 0), .int (bI ml), .int (nI len)], aB G (ad 28) 60 (nF ch)] _ := hP
        have hD : va_D A [oX r 9 [.ref fo, .int (nI many), .int (nI ((clR ch len at_).2)), .ref h], aI G fo 240 (upd (upd fd (4 * many + 1) (rvI (rdR ch len 0 7 at_).1 (rdR ch len 0 7 at_).2.1)) (4 * many + 2) (rvI (rdR ch len 0 7 (sgA ch len ((rdR ch len 0 7 at_).2.2) 46)).1 (rdR ch len 0 7 (sgA ch len ((rdR ch len 0 7 at_).2.2) 46)).2.1)), oC h ad sn hsh, oX (ad 10) 12 [.ref (ad 28), .int (nI 0), .int (bI ml), .int (nI len)], aB G (ad 28) 60 (nF ch)] := hD
        rw [hQQ]
        exact rt_z hx hb hr hlk (by first | exact bI_nar _ | rfl) ((upd (upd fd (4 * many + 1) (rvI (rdR ch len 0 7 at_).1 (rdR ch len 0 7 at_).2.1)) (4 * many + 2) (rvI (rdR ch len 0 7 (sgA ch len ((rdR ch len 0 7 at_).2.2) 46)).1 (rdR ch len 0 7 (sgA ch len ((rdR ch len 0 7 at_).2.2) 46)).2.1))) dX10_cell_44 hP hD hS (by first | exact Nat.le_of_ble_eq_true rfl | (simp only [rm_X10_cell, rm_X10_number, rm_X10_put, rm_X10_takes]; omega) | omega) (by first | exact Nat.le_of_ble_eq_true rfl | (simp only [rm_X10_cell, rm_X10_number, rm_X10_put, rm_X10_takes]; omega) | omega) ⟨(by first | rfl | (unfold clR; skip; (try rw [if_pos c_12]); (try rw [if_pos c_21]); (try rw [if_pos c_36]); (try rw [c_12]); (try rw [c_21]); (try rw [c_36]); first | done | rfl)), by exact ⟨(by first | exact fdS_u fdS_r (by omega) | exact fdS_u (fdS_u fdS_r (by omega)) (by omega)), (by (intro hf_; unfold clR at hf_; (try unfold clR); skip; (try rw [if_pos c_12] at hf_); (try rw [if_pos c_21] at hf_); (try rw [if_pos c_36] at hf_); (try rw [c_12] at hf_); (try rw [c_21] at hf_); (try rw [c_36] at hf_); skip; (try rw [if_pos c_12]); (try rw [if_pos c_21]); (try rw [if_pos c_36]); first | done | rfl | exact ⟨rfl, rfl⟩ | exact ⟨rfl, rfl, rfl⟩ | exact absurd hf_ Bool.false_ne_true | (cases hf_; done) | exact ⟨cl_v1 c_12, cl_v2 c_36⟩ | (simp at hf_; done)))⟩⟩
def rm_X10_difference : Room := ({ frames := 6, cells := 0, slots := 0, locals := 200 } : Room)
set_option maxHeartbeats 400000 in
set_option maxRecDepth 100000 in
theorem t_X10_difference (l : Launch) (G : GG) (b0 sz : Nat) (r fo many at_ h len : Nat) (ad : Nat → Nat) (sn : Value) (hsh : Int64) (ml : Bool) (ch : Nat → Nat) (fd : Nat → Int32) (hat : at_ ≤ len) (hle : len ≤ 60) (hch : ∀ j, j < len → ch j ≤ 126) (hmy : many ≤ 59) : CT l yX10_difference cX10_difference 3 (some FieldType.boolean) (rm_X10_difference) G b0 [.ref r] [oX r 9 [.ref fo, .int (nI many), .int (nI at_), .ref h], aI G fo 240 fd, oC h ad sn hsh, oX (ad 10) 12 [.ref (ad 28), .int (nI 0), .int (bI ml), .int (nI len)], aB G (ad 28) 60 (nF ch)] sz (Ri G (fun (r_ : Int32) (_ : Unit) => r_ = bI ((dfR ch len at_).1)) (fun (_ : Unit) => [oX r 9 [.ref fo, .int (nI many), .int (nI ((dfR ch len at_).2.2)), .ref h], aI G fo 240 (upd fd (4 * many + 3) (dfV (sgB ch len at_ 45) (dfR ch len at_).1 (dfR ch len at_).2.1)), oC h ad sn hsh, oX (ad 10) 12 [.ref (ad 28), .int (nI 0), .int (bI ml), .int (nI len)], aB G (ad 28) 60 (nF ch)])) := by
  refine CT.go (by decide) (Nat.le_of_ble_eq_true rfl) (fun p e s m below meth c A ls AR QQ hx hb hr hlk hml hown hnm hts hE hA hAb hsz hP hD hS hl hQQ => ?_)
  have hK := hE.1
  have hown : s.vm.findClass RX10 = some m.cls := hown
  have hl : lv_has ls 3 [(0, .ref r)] := hl
  clear hsz
  have hr2 := sgA_le (ch := ch) (c := 45) hat
  have hq4 : asgL (sgB ch len at_ 45) ≤ 1 := by unfold asgL; split <;> omega
  have hr3 : (dfR ch len at_).2.1 ≤ 255 := (rdR_at hr2.1).2.1
  refine lv_aload_n hx hb dX10_difference_0 rfl (lv_at hl 0 rfl) ?_
  refine lv_bipush (v := nI 45) hx hb dX10_difference_1 (by decide) ?_
  refine fin_i (ws' := (fun (_ : Unit) => [oX r 9 [.ref fo, .int (nI many), .int (nI (sgA ch len at_ 45)), .ref h], aI G fo 240 fd, oC h ad sn hsh, oX (ad 10) 12 [.ref (ad 28), .int (nI 0), .int (bI ml), .int (nI len)], aB G (ad 28) 60 (nF ch)])) hA hS hP hD [0, 2, 3, 4] rfl [(true, 0), (false, 1), (true, 1), (true, 2), (true, 3)] (fun _ => rfl) (by decide) (run_V (As := [.int (nI 45)]) (rest := []) (n9 := 1) hx hb hml hown hts hE hAb hl.1 hS hP hD [0, 2, 3, 4] rfl (by decide) (t_X10_takes l G b0 _ r fo many at_ h len ad sn hsh ml ch 45 (by omega) (by omega) (by exact hch) (by omega)) (lw_V q1026 q1028 qs16 q142 q1029) 0 rfl rfl ⟨rfl, by decide, by decide, by decide +kernel⟩ ⟨Nat.le_of_ble_eq_true rfl, Nat.le_of_ble_eq_true rfl⟩ ⟨by first | exact Nat.le_of_ble_eq_true rfl | (simp only [rm_X10_difference, rm_X10_takes]; omega), by first | exact Nat.le_of_ble_eq_true rfl | (simp only [rm_X10_difference, rm_X10_takes]; omega)⟩ dX10_difference_3 (Nat.le_of_ble_eq_true rfl) rfl rfl) (fun r_1 u_1 H locs h_1 hP hD hS => ?_)
  have hP : va_P G.1 vwCl [oX r 9 [.ref fo, .int (nI many), .int (nI (sgA ch len at_ 45)), .ref h], aI G fo 240 fd, oC h ad sn hsh, oX (ad 10) 12 [.ref (ad 28), .int (nI 0), .int (bI ml), .int (nI len)], aB G (ad 28) 60 (nF ch)] _ := hP
  have hD : va_D A [oX r 9 [.ref fo, .int (nI many), .int (nI (sgA ch len at_ 45)), .ref h], aI G fo 240 fd, oC h ad sn hsh, oX (ad 10) 12 [.ref (ad 28), .int (nI 0), .int (bI ml), .int (nI len)], aB G (ad 28) 60 (nF ch)] := hD
  have h_1 : r_1 = (bI (sgB ch len at_ 45)) := h_1
  rw [h_1]
  refine lv_istore_n (lv' := [(1, .int (bI (sgB ch len at_ 45))), (0, .ref r)]) hx hb dX10_difference_6 rfl hl (by decide) rfl (fun ls hl => ?_)
  refine lv_aload_n hx hb dX10_difference_7 rfl (lv_at hl 1 rfl) ?_
  refine lv_iload_n hx hb dX10_difference_8 rfl (lv_at hl 0 rfl) ?_
  have K_9 : ∀ (v_2 : Nat) (_ : v_2 = if (sgB ch len at_ 45) = true then 1 else 0) (H : Heap) (locs : List Loc) (ls : Array Slot), va_P G.1 vwCl [oX r 9 [.ref fo, .int (nI many), .int (nI (sgA ch len at_ 45)), .ref h], aI G fo 240 fd, oC h ad sn hsh, oX (ad 10) 12 [.ref (ad 28), .int (nI 0), .int (bI ml), .int (nI len)], aB G (ad 28) 60 (nF ch)] H → va_D A [oX r 9 [.ref fo, .int (nI many), .int (nI (sgA ch len at_ 45)), .ref h], aI G fo 240 fd, oC h ad sn hsh, oX (ad 10) 12 [.ref (ad 28), .int (nI 0), .int (bI ml), .int (nI len)], aB G (ad 28) 60 (nF ch)] → va_S A s.heap H locs → lv_has ls 3 [(1, .int (bI (sgB ch len at_ 45))), (0, .ref r)] → W p l e (rm_X10_difference) s m AR below meth c H locs 0 0 QQ (F0 m 17 ls [.int (nI v_2), .ref r]) := by
    intro v_2 e_v_2 H locs ls hP hD hS hl
    subst e_v_2
    refine W.eq (g2 := F0 m 17 ls [.int (nI (asgL (sgB ch len at_ 45))), .ref r]) rfl ?_
    refine lv_sipush (v := nI 255) hx hb dX10_difference_17 (by decide) ?_
    refine fin_i (ws' := (fun (_ : Unit) => [oX r 9 [.ref fo, .int (nI many), .int (nI ((rdR ch len (asgL (sgB ch len at_ 45)) 255 (sgA ch len at_ 45)).2.2)), .ref h], aI G fo 240 fd, oC h ad sn hsh, oX (ad 10) 12 [.ref (ad 28), .int (nI 0), .int (bI ml), .int (nI len)], aB G (ad 28) 60 (nF ch)])) hA hS hP hD [0, 2, 3, 4] rfl [(true, 0), (false, 1), (true, 1), (true, 2), (true, 3)] (fun _ => rfl) (by decide) (run_V (As := [.int (nI (asgL (sgB ch len at_ 45))), .int (nI 255)]) (rest := []) (n9 := 2) hx hb hml hown hts hE hAb hl.1 hS hP hD [0, 2, 3, 4] rfl (by decide) (t_X10_number l G b0 _ r fo many (sgA ch len at_ 45) h len ad sn hsh ml ch (asgL (sgB ch len at_ 45)) 255 (by omega) (by omega) (by exact hch) (by omega) (by omega)) (lw_V q1014 q1016 qs14 q142 q1017) 0 rfl rfl ⟨rfl, by decide, by decide, by decide +kernel⟩ ⟨Nat.le_of_ble_eq_true rfl, Nat.le_of_ble_eq_true rfl⟩ ⟨by first | exact Nat.le_of_ble_eq_true rfl | (simp only [rm_X10_difference, rm_X10_number, rm_X10_takes]; omega), by first | exact Nat.le_of_ble_eq_true rfl | (simp only [rm_X10_difference, rm_X10_number, rm_X10_takes]; omega)⟩ dX10_difference_20 (Nat.le_of_ble_eq_true rfl) rfl rfl) (fun r_3 u_3 H locs h_3 hP hD hS => ?_)
    have hP : va_P G.1 vwCl [oX r 9 [.ref fo, .int (nI many), .int (nI ((rdR ch len (asgL (sgB ch len at_ 45)) 255 (sgA ch len at_ 45)).2.2)), .ref h], aI G fo 240 fd, oC h ad sn hsh, oX (ad 10) 12 [.ref (ad 28), .int (nI 0), .int (bI ml), .int (nI len)], aB G (ad 28) 60 (nF ch)] _ := hP
    have hD : va_D A [oX r 9 [.ref fo, .int (nI many), .int (nI ((rdR ch len (asgL (sgB ch len at_ 45)) 255 (sgA ch len at_ 45)).2.2)), .ref h], aI G fo 240 fd, oC h ad sn hsh, oX (ad 10) 12 [.ref (ad 28), .int (nI 0), .int (bI ml), .int (nI len)], aB G (ad 28) 60 (nF ch)] := hD
    have h_3 : r_3 = (rvI (rdR ch len (asgL (sgB ch len at_ 45)) 255 (sgA ch len at_ 45)).1 (rdR ch len (asgL (sgB ch len at_ 45)) 255 (sgA ch len at_ 45)).2.1) := h_3
    rw [h_3]
    refine lv_istore_n (lv' := [(2, .int (rvI (rdR ch len (asgL (sgB ch len at_ 45)) 255 (sgA ch len at_ 45)).1 (rdR ch len (asgL (sgB ch len at_ 45)) 255 (sgA ch len at_ 45)).2.1)), (1, .int (bI (sgB ch len at_ 45))), (0, .ref r)]) hx hb dX10_difference_23 rfl hl (by decide) rfl (fun ls hl => ?_)
    have hl : lv_has ls 3 [(2, .int (rvI (dfR ch len at_).1 (dfR ch len at_).2.1)), (1, .int (bI (sgB ch len at_ 45))), (0, .ref r)] := hl
    refine lv_aload_n hx hb dX10_difference_24 rfl (lv_at hl 2 rfl) ?_
    refine lv_iconst (v := nI 3) hx hb dX10_difference_25 (by decide) ?_
    refine lv_iload_n hx hb dX10_difference_26 rfl (lv_at hl 1 rfl) ?_
    have K_27 : ∀ (v_4 : Int32) (_ : v_4 = if (sgB ch len at_ 45) = true then (if (rvI (dfR ch len at_).1 (dfR ch len at_).2.1) = ((-1000)) then (rvI (dfR ch len at_).1 (dfR ch len at_).2.1) else (-(rvI (dfR ch len at_).1 (dfR ch len at_).2.1))) else (rvI (dfR ch len at_).1 (dfR ch len at_).2.1)) (H : Heap) (locs : List Loc) (ls : Array Slot), va_P G.1 vwCl [oX r 9 [.ref fo, .int (nI many), .int (nI ((rdR ch len (asgL (sgB ch len at_ 45)) 255 (sgA ch len at_ 45)).2.2)), .ref h], aI G fo 240 fd, oC h ad sn hsh, oX (ad 10) 12 [.ref (ad 28), .int (nI 0), .int (bI ml), .int (nI len)], aB G (ad 28) 60 (nF ch)] H → va_D A [oX r 9 [.ref fo, .int (nI many), .int (nI ((rdR ch len (asgL (sgB ch len at_ 45)) 255 (sgA ch len at_ 45)).2.2)), .ref h], aI G fo 240 fd, oC h ad sn hsh, oX (ad 10) 12 [.ref (ad 28), .int (nI 0), .int (bI ml), .int (nI len)], aB G (ad 28) 60 (nF ch)] → va_S A s.heap H locs → lv_has ls 3 [(2, .int (rvI (dfR ch len at_).1 (dfR ch len at_).2.1)), (1, .int (bI (sgB ch len at_ 45))), (0, .ref r)] → W p l e (rm_X10_difference) s m AR below meth c H locs 0 0 QQ (F0 m 43 ls [.int v_4, .int (nI 3), .ref r]) := by
      intro v_4 e_v_4 H locs ls hP hD hS hl
      subst e_v_4
      have hP : va_P G.1 vwCl [oX r 9 [.ref fo, .int (nI many), .int (nI ((dfR ch len at_).2.2)), .ref h], aI G fo 240 fd, oC h ad sn hsh, oX (ad 10) 12 [.ref (ad 28), .int (nI 0), .int (bI ml), .int (nI len)], aB G (ad 28) 60 (nF ch)] _ := hP
      have hD : va_D A [oX r 9 [.ref fo, .int (nI many), .int (nI ((dfR ch len at_).2.2)), .ref h], aI G fo 240 fd, oC h ad sn hsh, oX (ad 10) 12 [.ref (ad 28), .int (nI 0), .int (bI ml), .int (nI len)], aB G (ad 28) 60 (nF ch)] := hD
      refine W.eq (g2 := F0 m 43 ls [.int (dfV (sgB ch len at_ 45) (dfR ch len at_).1 (dfR ch len at_).2.1), .int (nI 3), .ref r]) rfl ?_
      refine fin_i (ws' := (fun (_ : Unit) => [oX r 9 [.ref fo, .int (nI many), .int (nI ((dfR ch len at_).2.2)), .ref h], aI G fo 240 (upd fd (4 * many + 3) (dfV (sgB ch len at_ 45) (dfR ch len at_).1 (dfR ch len at_).2.1)), oC h ad sn hsh, oX (ad 10) 12 [.ref (ad 28), .int (nI 0), .int (bI ml), .int (nI len)], aB G (ad 28) 60 (nF ch)])) hA hS hP hD [0, 1] rfl [(true, 0), (true, 1), (false, 2), (false, 3), (false, 4)] (fun _ => rfl) (by decide) (run_V (As := [.int (nI 3), .int (dfV (sgB ch len at_ 45) (dfR ch len at_).1 (dfR ch len at_).2.1)]) (rest := []) (n9 := 2) hx hb hml hown hts hE hAb hl.1 hS hP hD [0, 1] rfl (by decide) (t_X10_put l G b0 _ r fo many ((dfR ch len at_).2.2) h 3 fd (dfV (sgB ch len at_ 45) (dfR ch len at_).1 (dfR ch len at_).2.1) (by omega) (by omega)) (lw_V q1022 q1024 qs15 q142 q1025) 0 rfl rfl ⟨rfl, by decide, by decide, by decide +kernel⟩ ⟨Nat.le_of_ble_eq_true rfl, Nat.le_of_ble_eq_true rfl⟩ ⟨by first | exact Nat.le_of_ble_eq_true rfl | (simp only [rm_X10_difference, rm_X10_put, rm_X10_takes, rm_X10_number]; omega), by first | exact Nat.le_of_ble_eq_true rfl | (simp only [rm_X10_difference, rm_X10_put, rm_X10_takes, rm_X10_number]; omega)⟩ dX10_difference_43 (Nat.le_of_ble_eq_true rfl) rfl rfl) (fun r_5 u_5 H locs h_5 hP hD hS => ?_)
      have hP : va_P G.1 vwCl [oX r 9 [.ref fo, .int (nI many), .int (nI ((dfR ch len at_).2.2)), .ref h], aI G fo 240 (upd fd (4 * many + 3) (dfV (sgB ch len at_ 45) (dfR ch len at_).1 (dfR ch len at_).2.1)), oC h ad sn hsh, oX (ad 10) 12 [.ref (ad 28), .int (nI 0), .int (bI ml), .int (nI len)], aB G (ad 28) 60 (nF ch)] _ := hP
      have hD : va_D A [oX r 9 [.ref fo, .int (nI many), .int (nI ((dfR ch len at_).2.2)), .ref h], aI G fo 240 (upd fd (4 * many + 3) (dfV (sgB ch len at_ 45) (dfR ch len at_).1 (dfR ch len at_).2.1)), oC h ad sn hsh, oX (ad 10) 12 [.ref (ad 28), .int (nI 0), .int (bI ml), .int (nI len)], aB G (ad 28) 60 (nF ch)] := hD
      have h_5 : r_5 = (bI (if (dfV (sgB ch len at_ 45) (dfR ch len at_).1 (dfR ch len at_).2.1) = (-1000) then false else true)) := h_5
      rw [h_5]
      refine W.eq (g2 := F0 m 46 ls [.int (bI ((dfR ch len at_).1))]) (by rw [df_b hr3]) ?_
      rw [hQQ]
      exact rt_z hx hb hr hlk (by first | exact bI_nar _ | rfl) ((())) dX10_difference_46 hP hD hS (by first | exact Nat.le_of_ble_eq_true rfl | (simp only [rm_X10_difference, rm_X10_takes, rm_X10_number, rm_X10_put]; omega) | omega) (by first | exact Nat.le_of_ble_eq_true rfl | (simp only [rm_X10_difference, rm_X10_takes, rm_X10_number, rm_X10_put]; omega) | omega) (by rfl)
    refine B_if_eq (tgt := 42) hx hb dX10_difference_27 (by decide) (fun c_27 => ?_) (fun c_27 => ?_)
    · skip
      refine lv_iload_n hx hb dX10_difference_42 rfl (lv_at hl 0 rfl) ?_
      exact K_27 (rvI (dfR ch len at_).1 (dfR ch len at_).2.1) (by first | rfl | (try rw [if_neg (ne_true_of_eq_false c_27)]) | simp_all) _ _ _ hP hD hS (lv_sub hl [0, 1, 2] rfl)
    · skip
      refine lv_iload_n hx hb dX10_difference_30 rfl (lv_at hl 0 rfl) ?_
      refine lv_sipush (v := (-1000)) hx hb dX10_difference_31 (by decide) ?_
      refine lv_icmp_eq (tgt := 42) hx hb dX10_difference_34 (by decide) (fun c_34 => ?_) (fun c_34 => ?_)
      · skip
        refine lv_iload_n hx hb dX10_difference_42 rfl (lv_at hl 0 rfl) ?_
        exact K_27 (rvI (dfR ch len at_).1 (dfR ch len at_).2.1) (by first | rfl | (try rw [if_pos c_27]; try rw [if_pos c_34]) | simp_all) _ _ _ hP hD hS (lv_sub hl [0, 1, 2] rfl)
      · skip
        refine lv_iload_n hx hb dX10_difference_37 rfl (lv_at hl 0 rfl) ?_
        refine lv_ineg hx hb dX10_difference_38 ?_
        refine lv_goto (tgt := 43) hx hb dX10_difference_39 (by decide) ?_
        exact K_27 (-(rvI (dfR ch len at_).1 (dfR ch len at_).2.1)) (by first | rfl | (try rw [if_pos c_27]; try rw [if_neg c_34]) | simp_all) _ _ _ hP hD hS (lv_sub hl [0, 1, 2] rfl)
  refine B_if_eq (tgt := 16) hx hb dX10_difference_9 (by decide) (fun c_9 => ?_) (fun c_9 => ?_)
  · skip
    refine lv_iconst (v := nI 0) hx hb dX10_difference_16 (by decide) ?_
    exact K_9 0 (by first | rfl | (try rw [if_neg (ne_true_of_eq_false c_9)]) | simp_all) _ _ _ hP hD hS (lv_sub hl [0, 1] rfl)
  · skip
    refine lv_iconst (v := nI 1) hx hb dX10_difference_12 (by decide) ?_
    refine lv_goto (tgt := 17) hx hb dX10_difference_13 (by decide) ?_
    exact K_9 1 (by first | rfl | (try rw [if_pos c_9]) | simp_all) _ _ _ hP hD hS (lv_sub hl [0, 1] rfl)
def rm_X10_rest : Room := ({ frames := 7, cells := 0, slots := 0, locals := 240 } : Room)
set_option maxHeartbeats 400000 in
set_option maxRecDepth 100000 in
theorem t_X10_rest (l : Launch) (G : GG) (b0 sz : Nat) (r fo many at_ h len : Nat) (ad : Nat → Nat) (sn : Value) (hsh : Int64) (ml : Bool) (ch : Nat → Nat) (fd : Nat → Int32) (cd : Nat) (hat : at_ ≤ len) (hle : len ≤ 60) (hch : ∀ j, j < len → ch j ≤ 126) (hmy : many ≤ 59) (hc : cd ≤ 126) : CT l yX10_rest cX10_rest 2 (some FieldType.boolean) (rm_X10_rest) G b0 [.ref r, .int (nI cd)] [oX r 9 [.ref fo, .int (nI many), .int (nI at_), .ref h], aI G fo 240 fd, oC h ad sn hsh, oX (ad 10) 12 [.ref (ad 28), .int (nI 0), .int (bI ml), .int (nI len)], aB G (ad 28) 60 (nF ch)] sz (Ri G (fun (r_ : Int32) (u : Nat → Int32) => r_ = bI (rsB ch len cd at_) ∧ fdS many fd u ∧ (rsB ch len cd at_ = true → fdD ch len cd at_ many u)) (fun (u : Nat → Int32) => [oX r 9 [.ref fo, .int (nI many), .int (nI (rsP ch len cd at_)), .ref h], aI G fo 240 u, oC h ad sn hsh, oX (ad 10) 12 [.ref (ad 28), .int (nI 0), .int (bI ml), .int (nI len)], aB G (ad 28) 60 (nF ch)])) := by
  refine CT.go (by decide) (Nat.le_of_ble_eq_true rfl) (fun p e s m below meth c A ls AR QQ hx hb hr hlk hml hown hnm hts hE hA hAb hsz hP hD hS hl hQQ => ?_)
  have hK := hE.1
  have hown : s.vm.findClass RX10 = some m.cls := hown
  have hl : lv_has ls 2 [(0, .ref r), (1, .int (nI cd))] := hl
  clear hsz
  have hk1 := clR_at (ch := ch) hat
  have hk2 := eqP_at (ch := ch) hat
  have hk3 := sgA_le (ch := ch) (c := 45) hk2
  have hk4 := rdR_at (ch := ch) (lo := 0) (hi := 255) hk2
  have hk5 := rdR_at (ch := ch) (lo := 0) (hi := 255) hat
  have hk6 := rdR_at (ch := ch) (lo := 1) (hi := 3) hat
  refine lv_iload_n hx hb dX10_rest_0 rfl (lv_at hl 1 rfl) ?_
  by_cases c_1_100 : cd = 100
  · rw [show nI cd = nI 100 by rw [c_1_100]]
    refine lv_lookup (tgt := 82) hx hb dX10_rest_1 (by decide) (by rfl) (by decide) ?_
    refine lv_aload_n hx hb dX10_rest_82 rfl (lv_at hl 0 rfl) ?_
    refine fin_i (ws' := (fun (u_1 : Nat → Int32) => [oX r 9 [.ref fo, .int (nI many), .int (nI ((clR ch len at_).2)), .ref h], aI G fo 240 u_1, oC h ad sn hsh, oX (ad 10) 12 [.ref (ad 28), .int (nI 0), .int (bI ml), .int (nI len)], aB G (ad 28) 60 (nF ch)])) hA hS hP hD [0, 1, 2, 3, 4] rfl [(true, 0), (true, 1), (true, 2), (true, 3), (true, 4)] (fun _ => rfl) (by decide) (run_V (As := []) (rest := []) (n9 := 0) hx hb hml hown hts hE hAb hl.1 hS hP hD [0, 1, 2, 3, 4] rfl (by decide) (t_X10_cell l G b0 _ r fo many at_ h len ad sn hsh ml ch fd (by omega) (by omega) (by exact hch) (by omega)) (lw_V q1010 q1012 qs13 q142 q1013) 0 rfl rfl ⟨rfl, by decide, by decide, by decide +kernel⟩ ⟨Nat.le_of_ble_eq_true rfl, Nat.le_of_ble_eq_true rfl⟩ ⟨by first | exact Nat.le_of_ble_eq_true rfl | (simp only [rm_X10_rest, rm_X10_cell]; omega), by first | exact Nat.le_of_ble_eq_true rfl | (simp only [rm_X10_rest, rm_X10_cell]; omega)⟩ dX10_rest_83 (Nat.le_of_ble_eq_true rfl) rfl rfl) (fun r_1 u_1 H locs h_1 hP hD hS => ?_)
    have hP : va_P G.1 vwCl [oX r 9 [.ref fo, .int (nI many), .int (nI ((clR ch len at_).2)), .ref h], aI G fo 240 u_1, oC h ad sn hsh, oX (ad 10) 12 [.ref (ad 28), .int (nI 0), .int (bI ml), .int (nI len)], aB G (ad 28) 60 (nF ch)] _ := hP
    have hD : va_D A [oX r 9 [.ref fo, .int (nI many), .int (nI ((clR ch len at_).2)), .ref h], aI G fo 240 u_1, oC h ad sn hsh, oX (ad 10) 12 [.ref (ad 28), .int (nI 0), .int (bI ml), .int (nI len)], aB G (ad 28) 60 (nF ch)] := hD
    obtain ⟨h_1, f_1⟩ := h_1
    have h_1 : r_1 = (bI ((clR ch len at_).1)) := h_1
    try rw [h_1] at f_1
    have f_1 : fdS many fd u_1 ∧ ((clR ch len at_).1 = true → u_1 (4 * many + 1) = nI (clX ch len at_) ∧ u_1 (4 * many + 2) = nI (clY ch len at_)) := f_1
    rw [h_1]
    have hcl := f_1
    refine B_if_eq (tgt := 109) hx hb dX10_rest_86 (by decide) (fun c_86 => ?_) (fun c_86 => ?_)
    · skip
      refine lv_iconst (v := nI 0) hx hb dX10_rest_109 (by decide) ?_
      have e_2 : ((clR ch len at_).2) = (rsP ch len cd at_) := by first | (rw [(rs_d c_1_100).2, (as_1 c_86).2]; done) | (rw [(rs_d c_1_100).2, (as_2 c_86 c_95).2]; done) | (rw [(rs_d c_1_100).2, (as_d hat c_86 c_95).2.1]; done) | (rw [(rs_p c_1_112).2, (as_1 c_48).2]; done) | (rw [(rs_p c_1_112).2, (as_2 c_48 c_57).2]; done) | (rw [(rs_p c_1_112).2, (as_p c_48 c_57).2.1]; done) | (rw [(rs_l c_1_108).2]; done) | (rw [(rs_t c_1_116).2]; done) | (rw [(rs_o (by omega)).2]; done)
      rw [show [oX r 9 [.ref fo, .int (nI many), .int (nI ((clR ch len at_).2)), .ref h], aI G fo 240 u_1, oC h ad sn hsh, oX (ad 10) 12 [.ref (ad 28), .int (nI 0), .int (bI ml), .int (nI len)], aB G (ad 28) 60 (nF ch)] = [oX r 9 [.ref fo, .int (nI many), .int (nI (rsP ch len cd at_)), .ref h], aI G fo 240 u_1, oC h ad sn hsh, oX (ad 10) 12 [.ref (ad 28), .int (nI 0), .int (bI ml), .int (nI len)], aB G (ad 28) 60 (nF ch)] from congrArg (fun z_ => [oX r 9 [.ref fo, .int (nI many), .int (nI z_), .ref h], aI G fo 240 u_1, oC h ad sn hsh, oX (ad 10) 12 [.ref (ad 28), .int (nI 0), .int (bI ml), .int (nI len)], aB G (ad 28) 60 (nF ch)]) e_2] at hP hD
      have hP : va_P G.1 vwCl [oX r 9 [.ref fo, .int (nI many), .int (nI (rsP ch len cd at_)), .ref h], aI G fo 240 u_1, oC h ad sn hsh, oX (ad 10) 12 [.ref (ad 28), .int (nI 0), .int (bI ml), .int (nI len)], aB G (ad 28) 60 (nF ch)] _ := hP
      have hD : va_D A [oX r 9 [.ref fo, .int (nI many), .int (nI (rsP ch len cd at_)), .ref h], aI G fo 240 u_1, oC h ad sn hsh, oX (ad 10) 12 [.ref (ad 28), .int (nI 0), .int (bI ml), .int (nI len)], aB G (ad 28) 60 (nF ch)] := hD
      rw [hQQ]
      exact rt_z hx hb hr hlk (by first | exact bI_nar _ | rfl) u_1 dX10_rest_110 hP hD hS (by first | exact Nat.le_of_ble_eq_true rfl | (simp only [rm_X10_rest, rm_X10_cell]; omega) | omega) (by first | exact Nat.le_of_ble_eq_true rfl | (simp only [rm_X10_rest, rm_X10_cell]; omega) | omega) ⟨(by first | (rw [(rs_d c_1_100).1, (as_1 c_86).1]; rfl) | (rw [(rs_d c_1_100).1, (as_2 c_86 c_95).1]; rfl) | (rw [(rs_d c_1_100).1, (as_d hat c_86 c_95).1, c_102]; rfl) | (rw [(rs_p c_1_112).1, (as_1 c_48).1]; rfl) | (rw [(rs_p c_1_112).1, (as_2 c_48 c_57).1]; rfl) | (rw [(rs_p c_1_112).1, (as_p c_48 c_57).1, c_73]; rfl) | (rw [(rs_l c_1_108).1]; done) | (rw [(rs_t c_1_116).1]; done) | (rw [(rs_o (by omega)).1]; rfl)), by refine ⟨(by first | exact fdS_r | exact fdS_u fdS_r (by omega) | exact hcl.1 | exact fdS_u hcl.1 (by omega)), fun hf_ => ?_⟩; first | (rw [(rs_d c_1_100).1, (as_1 c_86).1] at hf_; cases hf_; done) | (rw [(rs_d c_1_100).1, (as_2 c_86 c_95).1] at hf_; cases hf_; done) | (rw [(rs_d c_1_100).1, (as_d hat c_86 c_95).1, c_102] at hf_; cases hf_; done) | (rw [(rs_p c_1_112).1, (as_1 c_48).1] at hf_; cases hf_; done) | (rw [(rs_p c_1_112).1, (as_2 c_48 c_57).1] at hf_; cases hf_; done) | (rw [(rs_p c_1_112).1, (as_p c_48 c_57).1, c_73] at hf_; cases hf_; done) | exact fd_as (Or.inl ⟨c_1_100, rfl⟩) (hcl.2 c_86).1 (hcl.2 c_86).2 (as_d hat c_86 c_95).2.2.1 (as_d hat c_86 c_95).2.2.2.1 (by rw [(as_d hat c_86 c_95).2.2.2.2, c_102]) | exact fd_as (Or.inr ⟨c_1_112, rfl⟩) (hcl.2 c_48).1 (hcl.2 c_48).2 (as_p c_48 c_57).2.2.1 (as_p c_48 c_57).2.2.2.1 (by rw [(as_p c_48 c_57).2.2.2.2, c_73]; rfl) | exact fd_1 (Or.inl ⟨c_1_108, rfl, rfl⟩) (by rw [(rs_l c_1_108).1] at hf_; exact hf_) | exact fd_1 (Or.inr ⟨c_1_116, rfl, rfl⟩) (by rw [(rs_t c_1_116).1] at hf_; exact hf_) | exact ⟨fun z => by omega, fun z => by omega, fun z => by omega⟩⟩
    · skip
      refine lv_aload_n hx hb dX10_rest_89 rfl (lv_at hl 0 rfl) ?_
      refine lv_bipush (v := nI 61) hx hb dX10_rest_90 (by decide) ?_
      refine fin_i (ws' := (fun (_ : Unit) => [oX r 9 [.ref fo, .int (nI many), .int (nI (sgA ch len ((clR ch len at_).2) 61)), .ref h], aI G fo 240 u_1, oC h ad sn hsh, oX (ad 10) 12 [.ref (ad 28), .int (nI 0), .int (bI ml), .int (nI len)], aB G (ad 28) 60 (nF ch)])) hA hS hP hD [0, 2, 3, 4] rfl [(true, 0), (false, 1), (true, 1), (true, 2), (true, 3)] (fun _ => rfl) (by decide) (run_V (As := [.int (nI 61)]) (rest := []) (n9 := 1) hx hb hml hown hts hE hAb hl.1 hS hP hD [0, 2, 3, 4] rfl (by decide) (t_X10_takes l G b0 _ r fo many ((clR ch len at_).2) h len ad sn hsh ml ch 61 (by omega) (by omega) (by exact hch) (by omega)) (lw_V q1026 q1028 qs16 q142 q1029) 0 rfl rfl ⟨rfl, by decide, by decide, by decide +kernel⟩ ⟨Nat.le_of_ble_eq_true rfl, Nat.le_of_ble_eq_true rfl⟩ ⟨by first | exact Nat.le_of_ble_eq_true rfl | (simp only [rm_X10_rest, rm_X10_takes, rm_X10_cell]; omega), by first | exact Nat.le_of_ble_eq_true rfl | (simp only [rm_X10_rest, rm_X10_takes, rm_X10_cell]; omega)⟩ dX10_rest_92 (Nat.le_of_ble_eq_true rfl) rfl rfl) (fun r_3 u_3 H locs h_3 hP hD hS => ?_)
      have hP : va_P G.1 vwCl [oX r 9 [.ref fo, .int (nI many), .int (nI (sgA ch len ((clR ch len at_).2) 61)), .ref h], aI G fo 240 u_1, oC h ad sn hsh, oX (ad 10) 12 [.ref (ad 28), .int (nI 0), .int (bI ml), .int (nI len)], aB G (ad 28) 60 (nF ch)] _ := hP
      have hD : va_D A [oX r 9 [.ref fo, .int (nI many), .int (nI (sgA ch len ((clR ch len at_).2) 61)), .ref h], aI G fo 240 u_1, oC h ad sn hsh, oX (ad 10) 12 [.ref (ad 28), .int (nI 0), .int (bI ml), .int (nI len)], aB G (ad 28) 60 (nF ch)] := hD
      have h_3 : r_3 = (bI (sgB ch len ((clR ch len at_).2) 61)) := h_3
      rw [h_3]
      have hP : va_P G.1 vwCl [oX r 9 [.ref fo, .int (nI many), .int (nI (eqP ch len at_)), .ref h], aI G fo 240 u_1, oC h ad sn hsh, oX (ad 10) 12 [.ref (ad 28), .int (nI 0), .int (bI ml), .int (nI len)], aB G (ad 28) 60 (nF ch)] _ := hP
      have hD : va_D A [oX r 9 [.ref fo, .int (nI many), .int (nI (eqP ch len at_)), .ref h], aI G fo 240 u_1, oC h ad sn hsh, oX (ad 10) 12 [.ref (ad 28), .int (nI 0), .int (bI ml), .int (nI len)], aB G (ad 28) 60 (nF ch)] := hD
      refine B_if_eq (tgt := 109) hx hb dX10_rest_95 (by decide) (fun c_95 => ?_) (fun c_95 => ?_)
      · skip
        refine lv_iconst (v := nI 0) hx hb dX10_rest_109 (by decide) ?_
        have e_4 : (eqP ch len at_) = (rsP ch len cd at_) := by first | (rw [(rs_d c_1_100).2, (as_1 c_86).2]; done) | (rw [(rs_d c_1_100).2, (as_2 c_86 c_95).2]; done) | (rw [(rs_d c_1_100).2, (as_d hat c_86 c_95).2.1]; done) | (rw [(rs_p c_1_112).2, (as_1 c_48).2]; done) | (rw [(rs_p c_1_112).2, (as_2 c_48 c_57).2]; done) | (rw [(rs_p c_1_112).2, (as_p c_48 c_57).2.1]; done) | (rw [(rs_l c_1_108).2]; done) | (rw [(rs_t c_1_116).2]; done) | (rw [(rs_o (by omega)).2]; done)
        rw [show [oX r 9 [.ref fo, .int (nI many), .int (nI (eqP ch len at_)), .ref h], aI G fo 240 u_1, oC h ad sn hsh, oX (ad 10) 12 [.ref (ad 28), .int (nI 0), .int (bI ml), .int (nI len)], aB G (ad 28) 60 (nF ch)] = [oX r 9 [.ref fo, .int (nI many), .int (nI (rsP ch len cd at_)), .ref h], aI G fo 240 u_1, oC h ad sn hsh, oX (ad 10) 12 [.ref (ad 28), .int (nI 0), .int (bI ml), .int (nI len)], aB G (ad 28) 60 (nF ch)] from congrArg (fun z_ => [oX r 9 [.ref fo, .int (nI many), .int (nI z_), .ref h], aI G fo 240 u_1, oC h ad sn hsh, oX (ad 10) 12 [.ref (ad 28), .int (nI 0), .int (bI ml), .int (nI len)], aB G (ad 28) 60 (nF ch)]) e_4] at hP hD
        have hP : va_P G.1 vwCl [oX r 9 [.ref fo, .int (nI many), .int (nI (rsP ch len cd at_)), .ref h], aI G fo 240 u_1, oC h ad sn hsh, oX (ad 10) 12 [.ref (ad 28), .int (nI 0), .int (bI ml), .int (nI len)], aB G (ad 28) 60 (nF ch)] _ := hP
        have hD : va_D A [oX r 9 [.ref fo, .int (nI many), .int (nI (rsP ch len cd at_)), .ref h], aI G fo 240 u_1, oC h ad sn hsh, oX (ad 10) 12 [.ref (ad 28), .int (nI 0), .int (bI ml), .int (nI len)], aB G (ad 28) 60 (nF ch)] := hD
        rw [hQQ]
        exact rt_z hx hb hr hlk (by first | exact bI_nar _ | rfl) u_1 dX10_rest_110 hP hD hS (by first | exact Nat.le_of_ble_eq_true rfl | (simp only [rm_X10_rest, rm_X10_cell, rm_X10_takes]; omega) | omega) (by first | exact Nat.le_of_ble_eq_true rfl | (simp only [rm_X10_rest, rm_X10_cell, rm_X10_takes]; omega) | omega) ⟨(by first | (rw [(rs_d c_1_100).1, (as_1 c_86).1]; rfl) | (rw [(rs_d c_1_100).1, (as_2 c_86 c_95).1]; rfl) | (rw [(rs_d c_1_100).1, (as_d hat c_86 c_95).1, c_102]; rfl) | (rw [(rs_p c_1_112).1, (as_1 c_48).1]; rfl) | (rw [(rs_p c_1_112).1, (as_2 c_48 c_57).1]; rfl) | (rw [(rs_p c_1_112).1, (as_p c_48 c_57).1, c_73]; rfl) | (rw [(rs_l c_1_108).1]; done) | (rw [(rs_t c_1_116).1]; done) | (rw [(rs_o (by omega)).1]; rfl)), by refine ⟨(by first | exact fdS_r | exact fdS_u fdS_r (by omega) | exact hcl.1 | exact fdS_u hcl.1 (by omega)), fun hf_ => ?_⟩; first | (rw [(rs_d c_1_100).1, (as_1 c_86).1] at hf_; cases hf_; done) | (rw [(rs_d c_1_100).1, (as_2 c_86 c_95).1] at hf_; cases hf_; done) | (rw [(rs_d c_1_100).1, (as_d hat c_86 c_95).1, c_102] at hf_; cases hf_; done) | (rw [(rs_p c_1_112).1, (as_1 c_48).1] at hf_; cases hf_; done) | (rw [(rs_p c_1_112).1, (as_2 c_48 c_57).1] at hf_; cases hf_; done) | (rw [(rs_p c_1_112).1, (as_p c_48 c_57).1, c_73] at hf_; cases hf_; done) | exact fd_as (Or.inl ⟨c_1_100, rfl⟩) (hcl.2 c_86).1 (hcl.2 c_86).2 (as_d hat c_86 c_95).2.2.1 (as_d hat c_86 c_95).2.2.2.1 (by rw [(as_d hat c_86 c_95).2.2.2.2, c_102]) | exact fd_as (Or.inr ⟨c_1_112, rfl⟩) (hcl.2 c_48).1 (hcl.2 c_48).2 (as_p c_48 c_57).2.2.1 (as_p c_48 c_57).2.2.2.1 (by rw [(as_p c_48 c_57).2.2.2.2, c_73]; rfl) | exact fd_1 (Or.inl ⟨c_1_108, rfl, rfl⟩) (by rw [(rs_l c_1_108).1] at hf_; exact hf_) | exact fd_1 (Or.inr ⟨c_1_116, rfl, rfl⟩) (by rw [(rs_t c_1_116).1] at hf_; exact hf_) | exact ⟨fun z => by omega, fun z => by omega, fun z => by omega⟩⟩
      · skip
        refine lv_aload_n hx hb dX10_rest_98 rfl (lv_at hl 0 rfl) ?_
        refine fin_i (ws' := (fun (_ : Unit) => [oX r 9 [.ref fo, .int (nI many), .int (nI ((dfR ch len (eqP ch len at_)).2.2)), .ref h], aI G fo 240 (upd u_1 (4 * many + 3) (dfV (sgB ch len (eqP ch len at_) 45) (dfR ch len (eqP ch len at_)).1 (dfR ch len (eqP ch len at_)).2.1)), oC h ad sn hsh, oX (ad 10) 12 [.ref (ad 28), .int (nI 0), .int (bI ml), .int (nI len)], aB G (ad 28) 60 (nF ch)])) hA hS hP hD [0, 1, 2, 3, 4] rfl [(true, 0), (true, 1), (true, 2), (true, 3), (true, 4)] (fun _ => rfl) (by decide) (run_V (As := []) (rest := []) (n9 := 0) hx hb hml hown hts hE hAb hl.1 hS hP hD [0, 1, 2, 3, 4] rfl (by decide) (t_X10_difference l G b0 _ r fo many (eqP ch len at_) h len ad sn hsh ml ch u_1 (by omega) (by omega) (by exact hch) (by omega)) (lw_V q1030 q1032 qs17 q142 q1033) 0 rfl rfl ⟨rfl, by decide, by decide, by decide +kernel⟩ ⟨Nat.le_of_ble_eq_true rfl, Nat.le_of_ble_eq_true rfl⟩ ⟨by first | exact Nat.le_of_ble_eq_true rfl | (simp only [rm_X10_rest, rm_X10_difference, rm_X10_cell, rm_X10_takes]; omega), by first | exact Nat.le_of_ble_eq_true rfl | (simp only [rm_X10_rest, rm_X10_difference, rm_X10_cell, rm_X10_takes]; omega)⟩ dX10_rest_99 (Nat.le_of_ble_eq_true rfl) rfl rfl) (fun r_5 u_5 H locs h_5 hP hD hS => ?_)
        have hP : va_P G.1 vwCl [oX r 9 [.ref fo, .int (nI many), .int (nI ((dfR ch len (eqP ch len at_)).2.2)), .ref h], aI G fo 240 (upd u_1 (4 * many + 3) (dfV (sgB ch len (eqP ch len at_) 45) (dfR ch len (eqP ch len at_)).1 (dfR ch len (eqP ch len at_)).2.1)), oC h ad sn hsh, oX (ad 10) 12 [.ref (ad 28), .int (nI 0), .int (bI ml), .int (nI len)], aB G (ad 28) 60 (nF ch)] _ := hP
        have hD : va_D A [oX r 9 [.ref fo, .int (nI many), .int (nI ((dfR ch len (eqP ch len at_)).2.2)), .ref h], aI G fo 240 (upd u_1 (4 * many + 3) (dfV (sgB ch len (eqP ch len at_) 45) (dfR ch len (eqP ch len at_)).1 (dfR ch len (eqP ch len at_)).2.1)), oC h ad sn hsh, oX (ad 10) 12 [.ref (ad 28), .int (nI 0), .int (bI ml), .int (nI len)], aB G (ad 28) 60 (nF ch)] := hD
        have h_5 : r_5 = (bI ((dfR ch len (eqP ch len at_)).1)) := h_5
        rw [h_5]
        refine B_if_eq (tgt := 109) hx hb dX10_rest_102 (by decide) (fun c_102 => ?_) (fun c_102 => ?_)
        · skip
          refine lv_iconst (v := nI 0) hx hb dX10_rest_109 (by decide) ?_
          have e_6 : ((dfR ch len (eqP ch len at_)).2.2) = (rsP ch len cd at_) := by first | (rw [(rs_d c_1_100).2, (as_1 c_86).2]; done) | (rw [(rs_d c_1_100).2, (as_2 c_86 c_95).2]; done) | (rw [(rs_d c_1_100).2, (as_d hat c_86 c_95).2.1]; done) | (rw [(rs_p c_1_112).2, (as_1 c_48).2]; done) | (rw [(rs_p c_1_112).2, (as_2 c_48 c_57).2]; done) | (rw [(rs_p c_1_112).2, (as_p c_48 c_57).2.1]; done) | (rw [(rs_l c_1_108).2]; done) | (rw [(rs_t c_1_116).2]; done) | (rw [(rs_o (by omega)).2]; done)
          rw [show [oX r 9 [.ref fo, .int (nI many), .int (nI ((dfR ch len (eqP ch len at_)).2.2)), .ref h], aI G fo 240 (upd u_1 (4 * many + 3) (dfV (sgB ch len (eqP ch len at_) 45) (dfR ch len (eqP ch len at_)).1 (dfR ch len (eqP ch len at_)).2.1)), oC h ad sn hsh, oX (ad 10) 12 [.ref (ad 28), .int (nI 0), .int (bI ml), .int (nI len)], aB G (ad 28) 60 (nF ch)] = [oX r 9 [.ref fo, .int (nI many), .int (nI (rsP ch len cd at_)), .ref h], aI G fo 240 (upd u_1 (4 * many + 3) (dfV (sgB ch len (eqP ch len at_) 45) (dfR ch len (eqP ch len at_)).1 (dfR ch len (eqP ch len at_)).2.1)), oC h ad sn hsh, oX (ad 10) 12 [.ref (ad 28), .int (nI 0), .int (bI ml), .int (nI len)], aB G (ad 28) 60 (nF ch)] from congrArg (fun z_ => [oX r 9 [.ref fo, .int (nI many), .int (nI z_), .ref h], aI G fo 240 (upd u_1 (4 * many + 3) (dfV (sgB ch len (eqP ch len at_) 45) (dfR ch len (eqP ch len at_)).1 (dfR ch len (eqP ch len at_)).2.1)), oC h ad sn hsh, oX (ad 10) 12 [.ref (ad 28), .int (nI 0), .int (bI ml), .int (nI len)], aB G (ad 28) 60 (nF ch)]) e_6] at hP hD
          have hP : va_P G.1 vwCl [oX r 9 [.ref fo, .int (nI many), .int (nI (rsP ch len cd at_)), .ref h], aI G fo 240 (upd u_1 (4 * many + 3) (dfV (sgB ch len (eqP ch len at_) 45) (dfR ch len (eqP ch len at_)).1 (dfR ch len (eqP ch len at_)).2.1)), oC h ad sn hsh, oX (ad 10) 12 [.ref (ad 28), .int (nI 0), .int (bI ml), .int (nI len)], aB G (ad 28) 60 (nF ch)] _ := hP
          have hD : va_D A [oX r 9 [.ref fo, .int (nI many), .int (nI (rsP ch len cd at_)), .ref h], aI G fo 240 (upd u_1 (4 * many + 3) (dfV (sgB ch len (eqP ch len at_) 45) (dfR ch len (eqP ch len at_)).1 (dfR ch len (eqP ch len at_)).2.1)), oC h ad sn hsh, oX (ad 10) 12 [.ref (ad 28), .int (nI 0), .int (bI ml), .int (nI len)], aB G (ad 28) 60 (nF ch)] := hD
          rw [hQQ]
          exact rt_z hx hb hr hlk (by first | exact bI_nar _ | rfl) ((upd u_1 (4 * many + 3) (dfV (sgB ch len (eqP ch len at_) 45) (dfR ch len (eqP ch len at_)).1 (dfR ch len (eqP ch len at_)).2.1))) dX10_rest_110 hP hD hS (by first | exact Nat.le_of_ble_eq_true rfl | (simp only [rm_X10_rest, rm_X10_cell, rm_X10_takes, rm_X10_difference]; omega) | omega) (by first | exact Nat.le_of_ble_eq_true rfl | (simp only [rm_X10_rest, rm_X10_cell, rm_X10_takes, rm_X10_difference]; omega) | omega) ⟨(by first | (rw [(rs_d c_1_100).1, (as_1 c_86).1]; rfl) | (rw [(rs_d c_1_100).1, (as_2 c_86 c_95).1]; rfl) | (rw [(rs_d c_1_100).1, (as_d hat c_86 c_95).1, c_102]; rfl) | (rw [(rs_p c_1_112).1, (as_1 c_48).1]; rfl) | (rw [(rs_p c_1_112).1, (as_2 c_48 c_57).1]; rfl) | (rw [(rs_p c_1_112).1, (as_p c_48 c_57).1, c_73]; rfl) | (rw [(rs_l c_1_108).1]; done) | (rw [(rs_t c_1_116).1]; done) | (rw [(rs_o (by omega)).1]; rfl)), by refine ⟨(by first | exact fdS_r | exact fdS_u fdS_r (by omega) | exact hcl.1 | exact fdS_u hcl.1 (by omega)), fun hf_ => ?_⟩; first | (rw [(rs_d c_1_100).1, (as_1 c_86).1] at hf_; cases hf_; done) | (rw [(rs_d c_1_100).1, (as_2 c_86 c_95).1] at hf_; cases hf_; done) | (rw [(rs_d c_1_100).1, (as_d hat c_86 c_95).1, c_102] at hf_; cases hf_; done) | (rw [(rs_p c_1_112).1, (as_1 c_48).1] at hf_; cases hf_; done) | (rw [(rs_p c_1_112).1, (as_2 c_48 c_57).1] at hf_; cases hf_; done) | (rw [(rs_p c_1_112).1, (as_p c_48 c_57).1, c_73] at hf_; cases hf_; done) | exact fd_as (Or.inl ⟨c_1_100, rfl⟩) (hcl.2 c_86).1 (hcl.2 c_86).2 (as_d hat c_86 c_95).2.2.1 (as_d hat c_86 c_95).2.2.2.1 (by rw [(as_d hat c_86 c_95).2.2.2.2, c_102]) | exact fd_as (Or.inr ⟨c_1_112, rfl⟩) (hcl.2 c_48).1 (hcl.2 c_48).2 (as_p c_48 c_57).2.2.1 (as_p c_48 c_57).2.2.2.1 (by rw [(as_p c_48 c_57).2.2.2.2, c_73]; rfl) | exact fd_1 (Or.inl ⟨c_1_108, rfl, rfl⟩) (by rw [(rs_l c_1_108).1] at hf_; exact hf_) | exact fd_1 (Or.inr ⟨c_1_116, rfl, rfl⟩) (by rw [(rs_t c_1_116).1] at hf_; exact hf_) | exact ⟨fun z => by omega, fun z => by omega, fun z => by omega⟩⟩
        · skip
          refine lv_iconst (v := nI 1) hx hb dX10_rest_105 (by decide) ?_
          refine lv_goto (tgt := 110) hx hb dX10_rest_106 (by decide) ?_
          have e_7 : ((dfR ch len (eqP ch len at_)).2.2) = (rsP ch len cd at_) := by first | (rw [(rs_d c_1_100).2, (as_1 c_86).2]; done) | (rw [(rs_d c_1_100).2, (as_2 c_86 c_95).2]; done) | (rw [(rs_d c_1_100).2, (as_d hat c_86 c_95).2.1]; done) | (rw [(rs_p c_1_112).2, (as_1 c_48).2]; done) | (rw [(rs_p c_1_112).2, (as_2 c_48 c_57).2]; done) | (rw [(rs_p c_1_112).2, (as_p c_48 c_57).2.1]; done) | (rw [(rs_l c_1_108).2]; done) | (rw [(rs_t c_1_116).2]; done) | (rw [(rs_o (by omega)).2]; done)
          rw [show [oX r 9 [.ref fo, .int (nI many), .int (nI ((dfR ch len (eqP ch len at_)).2.2)), .ref h], aI G fo 240 (upd u_1 (4 * many + 3) (dfV (sgB ch len (eqP ch len at_) 45) (dfR ch len (eqP ch len at_)).1 (dfR ch len (eqP ch len at_)).2.1)), oC h ad sn hsh, oX (ad 10) 12 [.ref (ad 28), .int (nI 0), .int (bI ml), .int (nI len)], aB G (ad 28) 60 (nF ch)] = [oX r 9 [.ref fo, .int (nI many), .int (nI (rsP ch len cd at_)), .ref h], aI G fo 240 (upd u_1 (4 * many + 3) (dfV (sgB ch len (eqP ch len at_) 45) (dfR ch len (eqP ch len at_)).1 (dfR ch len (eqP ch len at_)).2.1)), oC h ad sn hsh, oX (ad 10) 12 [.ref (ad 28), .int (nI 0), .int (bI ml), .int (nI len)], aB G (ad 28) 60 (nF ch)] from congrArg (fun z_ => [oX r 9 [.ref fo, .int (nI many), .int (nI z_), .ref h], aI G fo 240 (upd u_1 (4 * many + 3) (dfV (sgB ch len (eqP ch len at_) 45) (dfR ch len (eqP ch len at_)).1 (dfR ch len (eqP ch len at_)).2.1)), oC h ad sn hsh, oX (ad 10) 12 [.ref (ad 28), .int (nI 0), .int (bI ml), .int (nI len)], aB G (ad 28) 60 (nF ch)]) e_7] at hP hD
          have hP : va_P G.1 vwCl [oX r 9 [.ref fo, .int (nI many), .int (nI (rsP ch len cd at_)), .ref h], aI G fo 240 (upd u_1 (4 * many + 3) (dfV (sgB ch len (eqP ch len at_) 45) (dfR ch len (eqP ch len at_)).1 (dfR ch len (eqP ch len at_)).2.1)), oC h ad sn hsh, oX (ad 10) 12 [.ref (ad 28), .int (nI 0), .int (bI ml), .int (nI len)], aB G (ad 28) 60 (nF ch)] _ := hP
          have hD : va_D A [oX r 9 [.ref fo, .int (nI many), .int (nI (rsP ch len cd at_)), .ref h], aI G fo 240 (upd u_1 (4 * many + 3) (dfV (sgB ch len (eqP ch len at_) 45) (dfR ch len (eqP ch len at_)).1 (dfR ch len (eqP ch len at_)).2.1)), oC h ad sn hsh, oX (ad 10) 12 [.ref (ad 28), .int (nI 0), .int (bI ml), .int (nI len)], aB G (ad 28) 60 (nF ch)] := hD
          rw [hQQ]
          exact rt_z hx hb hr hlk (by first | exact bI_nar _ | rfl) ((upd u_1 (4 * many + 3) (dfV (sgB ch len (eqP ch len at_) 45) (dfR ch len (eqP ch len at_)).1 (dfR ch len (eqP ch len at_)).2.1))) dX10_rest_110 hP hD hS (by first | exact Nat.le_of_ble_eq_true rfl | (simp only [rm_X10_rest, rm_X10_cell, rm_X10_takes, rm_X10_difference]; omega) | omega) (by first | exact Nat.le_of_ble_eq_true rfl | (simp only [rm_X10_rest, rm_X10_cell, rm_X10_takes, rm_X10_difference]; omega) | omega) ⟨(by first | (rw [(rs_d c_1_100).1, (as_1 c_86).1]; rfl) | (rw [(rs_d c_1_100).1, (as_2 c_86 c_95).1]; rfl) | (rw [(rs_d c_1_100).1, (as_d hat c_86 c_95).1, c_102]; rfl) | (rw [(rs_p c_1_112).1, (as_1 c_48).1]; rfl) | (rw [(rs_p c_1_112).1, (as_2 c_48 c_57).1]; rfl) | (rw [(rs_p c_1_112).1, (as_p c_48 c_57).1, c_73]; rfl) | (rw [(rs_l c_1_108).1]; done) | (rw [(rs_t c_1_116).1]; done) | (rw [(rs_o (by omega)).1]; rfl)), by refine ⟨(by first | exact fdS_r | exact fdS_u fdS_r (by omega) | exact hcl.1 | exact fdS_u hcl.1 (by omega)), fun hf_ => ?_⟩; first | (rw [(rs_d c_1_100).1, (as_1 c_86).1] at hf_; cases hf_; done) | (rw [(rs_d c_1_100).1, (as_2 c_86 c_95).1] at hf_; cases hf_; done) | (rw [(rs_d c_1_100).1, (as_d hat c_86 c_95).1, c_102] at hf_; cases hf_; done) | (rw [(rs_p c_1_112).1, (as_1 c_48).1] at hf_; cases hf_; done) | (rw [(rs_p c_1_112).1, (as_2 c_48 c_57).1] at hf_; cases hf_; done) | (rw [(rs_p c_1_112).1, (as_p c_48 c_57).1, c_73] at hf_; cases hf_; done) | exact fd_as (Or.inl ⟨c_1_100, rfl⟩) (hcl.2 c_86).1 (hcl.2 c_86).2 (as_d hat c_86 c_95).2.2.1 (as_d hat c_86 c_95).2.2.2.1 (by rw [(as_d hat c_86 c_95).2.2.2.2, c_102]) | exact fd_as (Or.inr ⟨c_1_112, rfl⟩) (hcl.2 c_48).1 (hcl.2 c_48).2 (as_p c_48 c_57).2.2.1 (as_p c_48 c_57).2.2.2.1 (by rw [(as_p c_48 c_57).2.2.2.2, c_73]; rfl) | exact fd_1 (Or.inl ⟨c_1_108, rfl, rfl⟩) (by rw [(rs_l c_1_108).1] at hf_; exact hf_) | exact fd_1 (Or.inr ⟨c_1_116, rfl, rfl⟩) (by rw [(rs_t c_1_116).1] at hf_; exact hf_) | exact ⟨fun z => by omega, fun z => by omega, fun z => by omega⟩⟩
  by_cases c_1_108 : cd = 108
  · rw [show nI cd = nI 108 by rw [c_1_108]]
    refine lv_lookup (tgt := 125) hx hb dX10_rest_1 (by decide) (by rfl) (by decide) ?_
    refine lv_aload_n hx hb dX10_rest_125 rfl (lv_at hl 0 rfl) ?_
    refine lv_iconst (v := nI 1) hx hb dX10_rest_126 (by decide) ?_
    refine lv_aload_n hx hb dX10_rest_127 rfl (lv_at hl 0 rfl) ?_
    refine lv_iconst (v := nI 1) hx hb dX10_rest_128 (by decide) ?_
    refine lv_iconst (v := nI 3) hx hb dX10_rest_129 (by decide) ?_
    refine fin_i (ws' := (fun (_ : Unit) => [oX r 9 [.ref fo, .int (nI many), .int (nI ((rdR ch len 1 3 at_).2.2)), .ref h], aI G fo 240 fd, oC h ad sn hsh, oX (ad 10) 12 [.ref (ad 28), .int (nI 0), .int (bI ml), .int (nI len)], aB G (ad 28) 60 (nF ch)])) hA hS hP hD [0, 2, 3, 4] rfl [(true, 0), (false, 1), (true, 1), (true, 2), (true, 3)] (fun _ => rfl) (by decide) (run_V (As := [.int (nI 1), .int (nI 3)]) (rest := [.int (nI 1), .ref r]) (n9 := 2) hx hb hml hown hts hE hAb hl.1 hS hP hD [0, 2, 3, 4] rfl (by decide) (t_X10_number l G b0 _ r fo many at_ h len ad sn hsh ml ch 1 3 (by omega) (by omega) (by exact hch) (by omega) (by omega)) (lw_V q1014 q1016 qs14 q142 q1017) 0 rfl rfl ⟨rfl, by decide, by decide, by decide +kernel⟩ ⟨Nat.le_of_ble_eq_true rfl, Nat.le_of_ble_eq_true rfl⟩ ⟨by first | exact Nat.le_of_ble_eq_true rfl | (simp only [rm_X10_rest, rm_X10_number, rm_X10_cell, rm_X10_takes, rm_X10_difference]; omega), by first | exact Nat.le_of_ble_eq_true rfl | (simp only [rm_X10_rest, rm_X10_number, rm_X10_cell, rm_X10_takes, rm_X10_difference]; omega)⟩ dX10_rest_130 (Nat.le_of_ble_eq_true rfl) rfl rfl) (fun r_8 u_8 H locs h_8 hP hD hS => ?_)
    have hP : va_P G.1 vwCl [oX r 9 [.ref fo, .int (nI many), .int (nI ((rdR ch len 1 3 at_).2.2)), .ref h], aI G fo 240 fd, oC h ad sn hsh, oX (ad 10) 12 [.ref (ad 28), .int (nI 0), .int (bI ml), .int (nI len)], aB G (ad 28) 60 (nF ch)] _ := hP
    have hD : va_D A [oX r 9 [.ref fo, .int (nI many), .int (nI ((rdR ch len 1 3 at_).2.2)), .ref h], aI G fo 240 fd, oC h ad sn hsh, oX (ad 10) 12 [.ref (ad 28), .int (nI 0), .int (bI ml), .int (nI len)], aB G (ad 28) 60 (nF ch)] := hD
    have h_8 : r_8 = (rvI (rdR ch len 1 3 at_).1 (rdR ch len 1 3 at_).2.1) := h_8
    rw [h_8]
    refine fin_i (ws' := (fun (_ : Unit) => [oX r 9 [.ref fo, .int (nI many), .int (nI ((rdR ch len 1 3 at_).2.2)), .ref h], aI G fo 240 (upd fd (4 * many + 1) (rvI (rdR ch len 1 3 at_).1 (rdR ch len 1 3 at_).2.1)), oC h ad sn hsh, oX (ad 10) 12 [.ref (ad 28), .int (nI 0), .int (bI ml), .int (nI len)], aB G (ad 28) 60 (nF ch)])) hA hS hP hD [0, 1] rfl [(true, 0), (true, 1), (false, 2), (false, 3), (false, 4)] (fun _ => rfl) (by decide) (run_V (As := [.int (nI 1), .int (rvI (rdR ch len 1 3 at_).1 (rdR ch len 1 3 at_).2.1)]) (rest := []) (n9 := 2) hx hb hml hown hts hE hAb hl.1 hS hP hD [0, 1] rfl (by decide) (t_X10_put l G b0 _ r fo many ((rdR ch len 1 3 at_).2.2) h 1 fd (rvI (rdR ch len 1 3 at_).1 (rdR ch len 1 3 at_).2.1) (by omega) (by omega)) (lw_V q1022 q1024 qs15 q142 q1025) 0 rfl rfl ⟨rfl, by decide, by decide, by decide +kernel⟩ ⟨Nat.le_of_ble_eq_true rfl, Nat.le_of_ble_eq_true rfl⟩ ⟨by first | exact Nat.le_of_ble_eq_true rfl | (simp only [rm_X10_rest, rm_X10_put, rm_X10_cell, rm_X10_takes, rm_X10_difference, rm_X10_number]; omega), by first | exact Nat.le_of_ble_eq_true rfl | (simp only [rm_X10_rest, rm_X10_put, rm_X10_cell, rm_X10_takes, rm_X10_difference, rm_X10_number]; omega)⟩ dX10_rest_133 (Nat.le_of_ble_eq_true rfl) rfl rfl) (fun r_9 u_9 H locs h_9 hP hD hS => ?_)
    have hP : va_P G.1 vwCl [oX r 9 [.ref fo, .int (nI many), .int (nI ((rdR ch len 1 3 at_).2.2)), .ref h], aI G fo 240 (upd fd (4 * many + 1) (rvI (rdR ch len 1 3 at_).1 (rdR ch len 1 3 at_).2.1)), oC h ad sn hsh, oX (ad 10) 12 [.ref (ad 28), .int (nI 0), .int (bI ml), .int (nI len)], aB G (ad 28) 60 (nF ch)] _ := hP
    have hD : va_D A [oX r 9 [.ref fo, .int (nI many), .int (nI ((rdR ch len 1 3 at_).2.2)), .ref h], aI G fo 240 (upd fd (4 * many + 1) (rvI (rdR ch len 1 3 at_).1 (rdR ch len 1 3 at_).2.1)), oC h ad sn hsh, oX (ad 10) 12 [.ref (ad 28), .int (nI 0), .int (bI ml), .int (nI len)], aB G (ad 28) 60 (nF ch)] := hD
    have h_9 : r_9 = (bI (if (rvI (rdR ch len 1 3 at_).1 (rdR ch len 1 3 at_).2.1) = (-1000) then false else true)) := h_9
    rw [h_9]
    refine W.eq (g2 := F0 m 136 ls [.int (bI ((rdR ch len 1 3 at_).1))]) (by rw [rv_b (by omega)]) ?_
    have e_10 : ((rdR ch len 1 3 at_).2.2) = (rsP ch len cd at_) := by first | (rw [(rs_d c_1_100).2, (as_1 c_86).2]; done) | (rw [(rs_d c_1_100).2, (as_2 c_86 c_95).2]; done) | (rw [(rs_d c_1_100).2, (as_d hat c_86 c_95).2.1]; done) | (rw [(rs_p c_1_112).2, (as_1 c_48).2]; done) | (rw [(rs_p c_1_112).2, (as_2 c_48 c_57).2]; done) | (rw [(rs_p c_1_112).2, (as_p c_48 c_57).2.1]; done) | (rw [(rs_l c_1_108).2]; done) | (rw [(rs_t c_1_116).2]; done) | (rw [(rs_o (by omega)).2]; done)
    rw [show [oX r 9 [.ref fo, .int (nI many), .int (nI ((rdR ch len 1 3 at_).2.2)), .ref h], aI G fo 240 (upd fd (4 * many + 1) (rvI (rdR ch len 1 3 at_).1 (rdR ch len 1 3 at_).2.1)), oC h ad sn hsh, oX (ad 10) 12 [.ref (ad 28), .int (nI 0), .int (bI ml), .int (nI len)], aB G (ad 28) 60 (nF ch)] = [oX r 9 [.ref fo, .int (nI many), .int (nI (rsP ch len cd at_)), .ref h], aI G fo 240 (upd fd (4 * many + 1) (rvI (rdR ch len 1 3 at_).1 (rdR ch len 1 3 at_).2.1)), oC h ad sn hsh, oX (ad 10) 12 [.ref (ad 28), .int (nI 0), .int (bI ml), .int (nI len)], aB G (ad 28) 60 (nF ch)] from congrArg (fun z_ => [oX r 9 [.ref fo, .int (nI many), .int (nI z_), .ref h], aI G fo 240 (upd fd (4 * many + 1) (rvI (rdR ch len 1 3 at_).1 (rdR ch len 1 3 at_).2.1)), oC h ad sn hsh, oX (ad 10) 12 [.ref (ad 28), .int (nI 0), .int (bI ml), .int (nI len)], aB G (ad 28) 60 (nF ch)]) e_10] at hP hD
    have hP : va_P G.1 vwCl [oX r 9 [.ref fo, .int (nI many), .int (nI (rsP ch len cd at_)), .ref h], aI G fo 240 (upd fd (4 * many + 1) (rvI (rdR ch len 1 3 at_).1 (rdR ch len 1 3 at_).2.1)), oC h ad sn hsh, oX (ad 10) 12 [.ref (ad 28), .int (nI 0), .int (bI ml), .int (nI len)], aB G (ad 28) 60 (nF ch)] _ := hP
    have hD : va_D A [oX r 9 [.ref fo, .int (nI many), .int (nI (rsP ch len cd at_)), .ref h], aI G fo 240 (upd fd (4 * many + 1) (rvI (rdR ch len 1 3 at_).1 (rdR ch len 1 3 at_).2.1)), oC h ad sn hsh, oX (ad 10) 12 [.ref (ad 28), .int (nI 0), .int (bI ml), .int (nI len)], aB G (ad 28) 60 (nF ch)] := hD
    rw [hQQ]
    exact rt_z hx hb hr hlk (by first | exact bI_nar _ | rfl) ((upd fd (4 * many + 1) (rvI (rdR ch len 1 3 at_).1 (rdR ch len 1 3 at_).2.1))) dX10_rest_136 hP hD hS (by first | exact Nat.le_of_ble_eq_true rfl | (simp only [rm_X10_rest, rm_X10_cell, rm_X10_takes, rm_X10_difference, rm_X10_number, rm_X10_put]; omega) | omega) (by first | exact Nat.le_of_ble_eq_true rfl | (simp only [rm_X10_rest, rm_X10_cell, rm_X10_takes, rm_X10_difference, rm_X10_number, rm_X10_put]; omega) | omega) ⟨(by first | (rw [(rs_d c_1_100).1, (as_1 c_86).1]; rfl) | (rw [(rs_d c_1_100).1, (as_2 c_86 c_95).1]; rfl) | (rw [(rs_d c_1_100).1, (as_d hat c_86 c_95).1, c_102]; rfl) | (rw [(rs_p c_1_112).1, (as_1 c_48).1]; rfl) | (rw [(rs_p c_1_112).1, (as_2 c_48 c_57).1]; rfl) | (rw [(rs_p c_1_112).1, (as_p c_48 c_57).1, c_73]; rfl) | (rw [(rs_l c_1_108).1]; done) | (rw [(rs_t c_1_116).1]; done) | (rw [(rs_o (by omega)).1]; rfl)), by refine ⟨(by first | exact fdS_r | exact fdS_u fdS_r (by omega) | exact hcl.1 | exact fdS_u hcl.1 (by omega)), fun hf_ => ?_⟩; first | (rw [(rs_d c_1_100).1, (as_1 c_86).1] at hf_; cases hf_; done) | (rw [(rs_d c_1_100).1, (as_2 c_86 c_95).1] at hf_; cases hf_; done) | (rw [(rs_d c_1_100).1, (as_d hat c_86 c_95).1, c_102] at hf_; cases hf_; done) | (rw [(rs_p c_1_112).1, (as_1 c_48).1] at hf_; cases hf_; done) | (rw [(rs_p c_1_112).1, (as_2 c_48 c_57).1] at hf_; cases hf_; done) | (rw [(rs_p c_1_112).1, (as_p c_48 c_57).1, c_73] at hf_; cases hf_; done) | exact fd_as (Or.inl ⟨c_1_100, rfl⟩) (hcl.2 c_86).1 (hcl.2 c_86).2 (as_d hat c_86 c_95).2.2.1 (as_d hat c_86 c_95).2.2.2.1 (by rw [(as_d hat c_86 c_95).2.2.2.2, c_102]) | exact fd_as (Or.inr ⟨c_1_112, rfl⟩) (hcl.2 c_48).1 (hcl.2 c_48).2 (as_p c_48 c_57).2.2.1 (as_p c_48 c_57).2.2.2.1 (by rw [(as_p c_48 c_57).2.2.2.2, c_73]; rfl) | exact fd_1 (Or.inl ⟨c_1_108, rfl, rfl⟩) (by rw [(rs_l c_1_108).1] at hf_; exact hf_) | exact fd_1 (Or.inr ⟨c_1_116, rfl, rfl⟩) (by rw [(rs_t c_1_116).1] at hf_; exact hf_) | exact ⟨fun z => by omega, fun z => by omega, fun z => by omega⟩⟩
  by_cases c_1_112 : cd = 112
  · rw [show nI cd = nI 112 by rw [c_1_112]]
    refine lv_lookup (tgt := 44) hx hb dX10_rest_1 (by decide) (by rfl) (by decide) ?_
    refine lv_aload_n hx hb dX10_rest_44 rfl (lv_at hl 0 rfl) ?_
    refine fin_i (ws' := (fun (u_11 : Nat → Int32) => [oX r 9 [.ref fo, .int (nI many), .int (nI ((clR ch len at_).2)), .ref h], aI G fo 240 u_11, oC h ad sn hsh, oX (ad 10) 12 [.ref (ad 28), .int (nI 0), .int (bI ml), .int (nI len)], aB G (ad 28) 60 (nF ch)])) hA hS hP hD [0, 1, 2, 3, 4] rfl [(true, 0), (true, 1), (true, 2), (true, 3), (true, 4)] (fun _ => rfl) (by decide) (run_V (As := []) (rest := []) (n9 := 0) hx hb hml hown hts hE hAb hl.1 hS hP hD [0, 1, 2, 3, 4] rfl (by decide) (t_X10_cell l G b0 _ r fo many at_ h len ad sn hsh ml ch fd (by omega) (by omega) (by exact hch) (by omega)) (lw_V q1010 q1012 qs13 q142 q1013) 0 rfl rfl ⟨rfl, by decide, by decide, by decide +kernel⟩ ⟨Nat.le_of_ble_eq_true rfl, Nat.le_of_ble_eq_true rfl⟩ ⟨by first | exact Nat.le_of_ble_eq_true rfl | (simp only [rm_X10_rest, rm_X10_cell, rm_X10_takes, rm_X10_difference, rm_X10_number, rm_X10_put]; omega), by first | exact Nat.le_of_ble_eq_true rfl | (simp only [rm_X10_rest, rm_X10_cell, rm_X10_takes, rm_X10_difference, rm_X10_number, rm_X10_put]; omega)⟩ dX10_rest_45 (Nat.le_of_ble_eq_true rfl) rfl rfl) (fun r_11 u_11 H locs h_11 hP hD hS => ?_)
    have hP : va_P G.1 vwCl [oX r 9 [.ref fo, .int (nI many), .int (nI ((clR ch len at_).2)), .ref h], aI G fo 240 u_11, oC h ad sn hsh, oX (ad 10) 12 [.ref (ad 28), .int (nI 0), .int (bI ml), .int (nI len)], aB G (ad 28) 60 (nF ch)] _ := hP
    have hD : va_D A [oX r 9 [.ref fo, .int (nI many), .int (nI ((clR ch len at_).2)), .ref h], aI G fo 240 u_11, oC h ad sn hsh, oX (ad 10) 12 [.ref (ad 28), .int (nI 0), .int (bI ml), .int (nI len)], aB G (ad 28) 60 (nF ch)] := hD
    obtain ⟨h_11, f_11⟩ := h_11
    have h_11 : r_11 = (bI ((clR ch len at_).1)) := h_11
    try rw [h_11] at f_11
    have f_11 : fdS many fd u_11 ∧ ((clR ch len at_).1 = true → u_11 (4 * many + 1) = nI (clX ch len at_) ∧ u_11 (4 * many + 2) = nI (clY ch len at_)) := f_11
    rw [h_11]
    have hcl := f_11
    refine B_if_eq (tgt := 80) hx hb dX10_rest_48 (by decide) (fun c_48 => ?_) (fun c_48 => ?_)
    · skip
      refine lv_iconst (v := nI 0) hx hb dX10_rest_80 (by decide) ?_
      have e_12 : ((clR ch len at_).2) = (rsP ch len cd at_) := by first | (rw [(rs_d c_1_100).2, (as_1 c_86).2]; done) | (rw [(rs_d c_1_100).2, (as_2 c_86 c_95).2]; done) | (rw [(rs_d c_1_100).2, (as_d hat c_86 c_95).2.1]; done) | (rw [(rs_p c_1_112).2, (as_1 c_48).2]; done) | (rw [(rs_p c_1_112).2, (as_2 c_48 c_57).2]; done) | (rw [(rs_p c_1_112).2, (as_p c_48 c_57).2.1]; done) | (rw [(rs_l c_1_108).2]; done) | (rw [(rs_t c_1_116).2]; done) | (rw [(rs_o (by omega)).2]; done)
      rw [show [oX r 9 [.ref fo, .int (nI many), .int (nI ((clR ch len at_).2)), .ref h], aI G fo 240 u_11, oC h ad sn hsh, oX (ad 10) 12 [.ref (ad 28), .int (nI 0), .int (bI ml), .int (nI len)], aB G (ad 28) 60 (nF ch)] = [oX r 9 [.ref fo, .int (nI many), .int (nI (rsP ch len cd at_)), .ref h], aI G fo 240 u_11, oC h ad sn hsh, oX (ad 10) 12 [.ref (ad 28), .int (nI 0), .int (bI ml), .int (nI len)], aB G (ad 28) 60 (nF ch)] from congrArg (fun z_ => [oX r 9 [.ref fo, .int (nI many), .int (nI z_), .ref h], aI G fo 240 u_11, oC h ad sn hsh, oX (ad 10) 12 [.ref (ad 28), .int (nI 0), .int (bI ml), .int (nI len)], aB G (ad 28) 60 (nF ch)]) e_12] at hP hD
      have hP : va_P G.1 vwCl [oX r 9 [.ref fo, .int (nI many), .int (nI (rsP ch len cd at_)), .ref h], aI G fo 240 u_11, oC h ad sn hsh, oX (ad 10) 12 [.ref (ad 28), .int (nI 0), .int (bI ml), .int (nI len)], aB G (ad 28) 60 (nF ch)] _ := hP
      have hD : va_D A [oX r 9 [.ref fo, .int (nI many), .int (nI (rsP ch len cd at_)), .ref h], aI G fo 240 u_11, oC h ad sn hsh, oX (ad 10) 12 [.ref (ad 28), .int (nI 0), .int (bI ml), .int (nI len)], aB G (ad 28) 60 (nF ch)] := hD
      rw [hQQ]
      exact rt_z hx hb hr hlk (by first | exact bI_nar _ | rfl) u_11 dX10_rest_81 hP hD hS (by first | exact Nat.le_of_ble_eq_true rfl | (simp only [rm_X10_rest, rm_X10_cell, rm_X10_takes, rm_X10_difference, rm_X10_number, rm_X10_put]; omega) | omega) (by first | exact Nat.le_of_ble_eq_true rfl | (simp only [rm_X10_rest, rm_X10_cell, rm_X10_takes, rm_X10_difference, rm_X10_number, rm_X10_put]; omega) | omega) ⟨(by first | (rw [(rs_d c_1_100).1, (as_1 c_86).1]; rfl) | (rw [(rs_d c_1_100).1, (as_2 c_86 c_95).1]; rfl) | (rw [(rs_d c_1_100).1, (as_d hat c_86 c_95).1, c_102]; rfl) | (rw [(rs_p c_1_112).1, (as_1 c_48).1]; rfl) | (rw [(rs_p c_1_112).1, (as_2 c_48 c_57).1]; rfl) | (rw [(rs_p c_1_112).1, (as_p c_48 c_57).1, c_73]; rfl) | (rw [(rs_l c_1_108).1]; done) | (rw [(rs_t c_1_116).1]; done) | (rw [(rs_o (by omega)).1]; rfl)), by refine ⟨(by first | exact fdS_r | exact fdS_u fdS_r (by omega) | exact hcl.1 | exact fdS_u hcl.1 (by omega)), fun hf_ => ?_⟩; first | (rw [(rs_d c_1_100).1, (as_1 c_86).1] at hf_; cases hf_; done) | (rw [(rs_d c_1_100).1, (as_2 c_86 c_95).1] at hf_; cases hf_; done) | (rw [(rs_d c_1_100).1, (as_d hat c_86 c_95).1, c_102] at hf_; cases hf_; done) | (rw [(rs_p c_1_112).1, (as_1 c_48).1] at hf_; cases hf_; done) | (rw [(rs_p c_1_112).1, (as_2 c_48 c_57).1] at hf_; cases hf_; done) | (rw [(rs_p c_1_112).1, (as_p c_48 c_57).1, c_73] at hf_; cases hf_; done) | exact fd_as (Or.inl ⟨c_1_100, rfl⟩) (hcl.2 c_86).1 (hcl.2 c_86).2 (as_d hat c_86 c_95).2.2.1 (as_d hat c_86 c_95).2.2.2.1 (by rw [(as_d hat c_86 c_95).2.2.2.2, c_102]) | exact fd_as (Or.inr ⟨c_1_112, rfl⟩) (hcl.2 c_48).1 (hcl.2 c_48).2 (as_p c_48 c_57).2.2.1 (as_p c_48 c_57).2.2.2.1 (by rw [(as_p c_48 c_57).2.2.2.2, c_73]; rfl) | exact fd_1 (Or.inl ⟨c_1_108, rfl, rfl⟩) (by rw [(rs_l c_1_108).1] at hf_; exact hf_) | exact fd_1 (Or.inr ⟨c_1_116, rfl, rfl⟩) (by rw [(rs_t c_1_116).1] at hf_; exact hf_) | exact ⟨fun z => by omega, fun z => by omega, fun z => by omega⟩⟩
    · skip
      refine lv_aload_n hx hb dX10_rest_51 rfl (lv_at hl 0 rfl) ?_
      refine lv_bipush (v := nI 61) hx hb dX10_rest_52 (by decide) ?_
      refine fin_i (ws' := (fun (_ : Unit) => [oX r 9 [.ref fo, .int (nI many), .int (nI (sgA ch len ((clR ch len at_).2) 61)), .ref h], aI G fo 240 u_11, oC h ad sn hsh, oX (ad 10) 12 [.ref (ad 28), .int (nI 0), .int (bI ml), .int (nI len)], aB G (ad 28) 60 (nF ch)])) hA hS hP hD [0, 2, 3, 4] rfl [(true, 0), (false, 1), (true, 1), (true, 2), (true, 3)] (fun _ => rfl) (by decide) (run_V (As := [.int (nI 61)]) (rest := []) (n9 := 1) hx hb hml hown hts hE hAb hl.1 hS hP hD [0, 2, 3, 4] rfl (by decide) (t_X10_takes l G b0 _ r fo many ((clR ch len at_).2) h len ad sn hsh ml ch 61 (by omega) (by omega) (by exact hch) (by omega)) (lw_V q1026 q1028 qs16 q142 q1029) 0 rfl rfl ⟨rfl, by decide, by decide, by decide +kernel⟩ ⟨Nat.le_of_ble_eq_true rfl, Nat.le_of_ble_eq_true rfl⟩ ⟨by first | exact Nat.le_of_ble_eq_true rfl | (simp only [rm_X10_rest, rm_X10_takes, rm_X10_cell, rm_X10_difference, rm_X10_number, rm_X10_put]; omega), by first | exact Nat.le_of_ble_eq_true rfl | (simp only [rm_X10_rest, rm_X10_takes, rm_X10_cell, rm_X10_difference, rm_X10_number, rm_X10_put]; omega)⟩ dX10_rest_54 (Nat.le_of_ble_eq_true rfl) rfl rfl) (fun r_13 u_13 H locs h_13 hP hD hS => ?_)
      have hP : va_P G.1 vwCl [oX r 9 [.ref fo, .int (nI many), .int (nI (sgA ch len ((clR ch len at_).2) 61)), .ref h], aI G fo 240 u_11, oC h ad sn hsh, oX (ad 10) 12 [.ref (ad 28), .int (nI 0), .int (bI ml), .int (nI len)], aB G (ad 28) 60 (nF ch)] _ := hP
      have hD : va_D A [oX r 9 [.ref fo, .int (nI many), .int (nI (sgA ch len ((clR ch len at_).2) 61)), .ref h], aI G fo 240 u_11, oC h ad sn hsh, oX (ad 10) 12 [.ref (ad 28), .int (nI 0), .int (bI ml), .int (nI len)], aB G (ad 28) 60 (nF ch)] := hD
      have h_13 : r_13 = (bI (sgB ch len ((clR ch len at_).2) 61)) := h_13
      rw [h_13]
      have hP : va_P G.1 vwCl [oX r 9 [.ref fo, .int (nI many), .int (nI (eqP ch len at_)), .ref h], aI G fo 240 u_11, oC h ad sn hsh, oX (ad 10) 12 [.ref (ad 28), .int (nI 0), .int (bI ml), .int (nI len)], aB G (ad 28) 60 (nF ch)] _ := hP
      have hD : va_D A [oX r 9 [.ref fo, .int (nI many), .int (nI (eqP ch len at_)), .ref h], aI G fo 240 u_11, oC h ad sn hsh, oX (ad 10) 12 [.ref (ad 28), .int (nI 0), .int (bI ml), .int (nI len)], aB G (ad 28) 60 (nF ch)] := hD
      refine B_if_eq (tgt := 80) hx hb dX10_rest_57 (by decide) (fun c_57 => ?_) (fun c_57 => ?_)
      · skip
        refine lv_iconst (v := nI 0) hx hb dX10_rest_80 (by decide) ?_
        have e_14 : (eqP ch len at_) = (rsP ch len cd at_) := by first | (rw [(rs_d c_1_100).2, (as_1 c_86).2]; done) | (rw [(rs_d c_1_100).2, (as_2 c_86 c_95).2]; done) | (rw [(rs_d c_1_100).2, (as_d hat c_86 c_95).2.1]; done) | (rw [(rs_p c_1_112).2, (as_1 c_48).2]; done) | (rw [(rs_p c_1_112).2, (as_2 c_48 c_57).2]; done) | (rw [(rs_p c_1_112).2, (as_p c_48 c_57).2.1]; done) | (rw [(rs_l c_1_108).2]; done) | (rw [(rs_t c_1_116).2]; done) | (rw [(rs_o (by omega)).2]; done)
        rw [show [oX r 9 [.ref fo, .int (nI many), .int (nI (eqP ch len at_)), .ref h], aI G fo 240 u_11, oC h ad sn hsh, oX (ad 10) 12 [.ref (ad 28), .int (nI 0), .int (bI ml), .int (nI len)], aB G (ad 28) 60 (nF ch)] = [oX r 9 [.ref fo, .int (nI many), .int (nI (rsP ch len cd at_)), .ref h], aI G fo 240 u_11, oC h ad sn hsh, oX (ad 10) 12 [.ref (ad 28), .int (nI 0), .int (bI ml), .int (nI len)], aB G (ad 28) 60 (nF ch)] from congrArg (fun z_ => [oX r 9 [.ref fo, .int (nI many), .int (nI z_), .ref h], aI G fo 240 u_11, oC h ad sn hsh, oX (ad 10) 12 [.ref (ad 28), .int (nI 0), .int (bI ml), .int (nI len)], aB G (ad 28) 60 (nF ch)]) e_14] at hP hD
        have hP : va_P G.1 vwCl [oX r 9 [.ref fo, .int (nI many), .int (nI (rsP ch len cd at_)), .ref h], aI G fo 240 u_11, oC h ad sn hsh, oX (ad 10) 12 [.ref (ad 28), .int (nI 0), .int (bI ml), .int (nI len)], aB G (ad 28) 60 (nF ch)] _ := hP
        have hD : va_D A [oX r 9 [.ref fo, .int (nI many), .int (nI (rsP ch len cd at_)), .ref h], aI G fo 240 u_11, oC h ad sn hsh, oX (ad 10) 12 [.ref (ad 28), .int (nI 0), .int (bI ml), .int (nI len)], aB G (ad 28) 60 (nF ch)] := hD
        rw [hQQ]
        exact rt_z hx hb hr hlk (by first | exact bI_nar _ | rfl) u_11 dX10_rest_81 hP hD hS (by first | exact Nat.le_of_ble_eq_true rfl | (simp only [rm_X10_rest, rm_X10_cell, rm_X10_takes, rm_X10_difference, rm_X10_number, rm_X10_put]; omega) | omega) (by first | exact Nat.le_of_ble_eq_true rfl | (simp only [rm_X10_rest, rm_X10_cell, rm_X10_takes, rm_X10_difference, rm_X10_number, rm_X10_put]; omega) | omega) ⟨(by first | (rw [(rs_d c_1_100).1, (as_1 c_86).1]; rfl) | (rw [(rs_d c_1_100).1, (as_2 c_86 c_95).1]; rfl) | (rw [(rs_d c_1_100).1, (as_d hat c_86 c_95).1, c_102]; rfl) | (rw [(rs_p c_1_112).1, (as_1 c_48).1]; rfl) | (rw [(rs_p c_1_112).1, (as_2 c_48 c_57).1]; rfl) | (rw [(rs_p c_1_112).1, (as_p c_48 c_57).1, c_73]; rfl) | (rw [(rs_l c_1_108).1]; done) | (rw [(rs_t c_1_116).1]; done) | (rw [(rs_o (by omega)).1]; rfl)), by refine ⟨(by first | exact fdS_r | exact fdS_u fdS_r (by omega) | exact hcl.1 | exact fdS_u hcl.1 (by omega)), fun hf_ => ?_⟩; first | (rw [(rs_d c_1_100).1, (as_1 c_86).1] at hf_; cases hf_; done) | (rw [(rs_d c_1_100).1, (as_2 c_86 c_95).1] at hf_; cases hf_; done) | (rw [(rs_d c_1_100).1, (as_d hat c_86 c_95).1, c_102] at hf_; cases hf_; done) | (rw [(rs_p c_1_112).1, (as_1 c_48).1] at hf_; cases hf_; done) | (rw [(rs_p c_1_112).1, (as_2 c_48 c_57).1] at hf_; cases hf_; done) | (rw [(rs_p c_1_112).1, (as_p c_48 c_57).1, c_73] at hf_; cases hf_; done) | exact fd_as (Or.inl ⟨c_1_100, rfl⟩) (hcl.2 c_86).1 (hcl.2 c_86).2 (as_d hat c_86 c_95).2.2.1 (as_d hat c_86 c_95).2.2.2.1 (by rw [(as_d hat c_86 c_95).2.2.2.2, c_102]) | exact fd_as (Or.inr ⟨c_1_112, rfl⟩) (hcl.2 c_48).1 (hcl.2 c_48).2 (as_p c_48 c_57).2.2.1 (as_p c_48 c_57).2.2.2.1 (by rw [(as_p c_48 c_57).2.2.2.2, c_73]; rfl) | exact fd_1 (Or.inl ⟨c_1_108, rfl, rfl⟩) (by rw [(rs_l c_1_108).1] at hf_; exact hf_) | exact fd_1 (Or.inr ⟨c_1_116, rfl, rfl⟩) (by rw [(rs_t c_1_116).1] at hf_; exact hf_) | exact ⟨fun z => by omega, fun z => by omega, fun z => by omega⟩⟩
      · skip
        refine lv_aload_n hx hb dX10_rest_60 rfl (lv_at hl 0 rfl) ?_
        refine lv_iconst (v := nI 3) hx hb dX10_rest_61 (by decide) ?_
        refine lv_aload_n hx hb dX10_rest_62 rfl (lv_at hl 0 rfl) ?_
        refine lv_iconst (v := nI 0) hx hb dX10_rest_63 (by decide) ?_
        refine lv_sipush (v := nI 255) hx hb dX10_rest_64 (by decide) ?_
        refine fin_i (ws' := (fun (_ : Unit) => [oX r 9 [.ref fo, .int (nI many), .int (nI ((rdR ch len 0 255 (eqP ch len at_)).2.2)), .ref h], aI G fo 240 u_11, oC h ad sn hsh, oX (ad 10) 12 [.ref (ad 28), .int (nI 0), .int (bI ml), .int (nI len)], aB G (ad 28) 60 (nF ch)])) hA hS hP hD [0, 2, 3, 4] rfl [(true, 0), (false, 1), (true, 1), (true, 2), (true, 3)] (fun _ => rfl) (by decide) (run_V (As := [.int (nI 0), .int (nI 255)]) (rest := [.int (nI 3), .ref r]) (n9 := 2) hx hb hml hown hts hE hAb hl.1 hS hP hD [0, 2, 3, 4] rfl (by decide) (t_X10_number l G b0 _ r fo many (eqP ch len at_) h len ad sn hsh ml ch 0 255 (by omega) (by omega) (by exact hch) (by omega) (by omega)) (lw_V q1014 q1016 qs14 q142 q1017) 0 rfl rfl ⟨rfl, by decide, by decide, by decide +kernel⟩ ⟨Nat.le_of_ble_eq_true rfl, Nat.le_of_ble_eq_true rfl⟩ ⟨by first | exact Nat.le_of_ble_eq_true rfl | (simp only [rm_X10_rest, rm_X10_number, rm_X10_cell, rm_X10_takes, rm_X10_difference, rm_X10_put]; omega), by first | exact Nat.le_of_ble_eq_true rfl | (simp only [rm_X10_rest, rm_X10_number, rm_X10_cell, rm_X10_takes, rm_X10_difference, rm_X10_put]; omega)⟩ dX10_rest_67 (Nat.le_of_ble_eq_true rfl) rfl rfl) (fun r_15 u_15 H locs h_15 hP hD hS => ?_)
        have hP : va_P G.1 vwCl [oX r 9 [.ref fo, .int (nI many), .int (nI ((rdR ch len 0 255 (eqP ch len at_)).2.2)), .ref h], aI G fo 240 u_11, oC h ad sn hsh, oX (ad 10) 12 [.ref (ad 28), .int (nI 0), .int (bI ml), .int (nI len)], aB G (ad 28) 60 (nF ch)] _ := hP
        have hD : va_D A [oX r 9 [.ref fo, .int (nI many), .int (nI ((rdR ch len 0 255 (eqP ch len at_)).2.2)), .ref h], aI G fo 240 u_11, oC h ad sn hsh, oX (ad 10) 12 [.ref (ad 28), .int (nI 0), .int (bI ml), .int (nI len)], aB G (ad 28) 60 (nF ch)] := hD
        have h_15 : r_15 = (rvI (rdR ch len 0 255 (eqP ch len at_)).1 (rdR ch len 0 255 (eqP ch len at_)).2.1) := h_15
        rw [h_15]
        refine fin_i (ws' := (fun (_ : Unit) => [oX r 9 [.ref fo, .int (nI many), .int (nI ((rdR ch len 0 255 (eqP ch len at_)).2.2)), .ref h], aI G fo 240 (upd u_11 (4 * many + 3) (rvI (rdR ch len 0 255 (eqP ch len at_)).1 (rdR ch len 0 255 (eqP ch len at_)).2.1)), oC h ad sn hsh, oX (ad 10) 12 [.ref (ad 28), .int (nI 0), .int (bI ml), .int (nI len)], aB G (ad 28) 60 (nF ch)])) hA hS hP hD [0, 1] rfl [(true, 0), (true, 1), (false, 2), (false, 3), (false, 4)] (fun _ => rfl) (by decide) (run_V (As := [.int (nI 3), .int (rvI (rdR ch len 0 255 (eqP ch len at_)).1 (rdR ch len 0 255 (eqP ch len at_)).2.1)]) (rest := []) (n9 := 2) hx hb hml hown hts hE hAb hl.1 hS hP hD [0, 1] rfl (by decide) (t_X10_put l G b0 _ r fo many ((rdR ch len 0 255 (eqP ch len at_)).2.2) h 3 u_11 (rvI (rdR ch len 0 255 (eqP ch len at_)).1 (rdR ch len 0 255 (eqP ch len at_)).2.1) (by omega) (by omega)) (lw_V q1022 q1024 qs15 q142 q1025) 0 rfl rfl ⟨rfl, by decide, by decide, by decide +kernel⟩ ⟨Nat.le_of_ble_eq_true rfl, Nat.le_of_ble_eq_true rfl⟩ ⟨by first | exact Nat.le_of_ble_eq_true rfl | (simp only [rm_X10_rest, rm_X10_put, rm_X10_cell, rm_X10_takes, rm_X10_difference, rm_X10_number]; omega), by first | exact Nat.le_of_ble_eq_true rfl | (simp only [rm_X10_rest, rm_X10_put, rm_X10_cell, rm_X10_takes, rm_X10_difference, rm_X10_number]; omega)⟩ dX10_rest_70 (Nat.le_of_ble_eq_true rfl) rfl rfl) (fun r_16 u_16 H locs h_16 hP hD hS => ?_)
        have hP : va_P G.1 vwCl [oX r 9 [.ref fo, .int (nI many), .int (nI ((rdR ch len 0 255 (eqP ch len at_)).2.2)), .ref h], aI G fo 240 (upd u_11 (4 * many + 3) (rvI (rdR ch len 0 255 (eqP ch len at_)).1 (rdR ch len 0 255 (eqP ch len at_)).2.1)), oC h ad sn hsh, oX (ad 10) 12 [.ref (ad 28), .int (nI 0), .int (bI ml), .int (nI len)], aB G (ad 28) 60 (nF ch)] _ := hP
        have hD : va_D A [oX r 9 [.ref fo, .int (nI many), .int (nI ((rdR ch len 0 255 (eqP ch len at_)).2.2)), .ref h], aI G fo 240 (upd u_11 (4 * many + 3) (rvI (rdR ch len 0 255 (eqP ch len at_)).1 (rdR ch len 0 255 (eqP ch len at_)).2.1)), oC h ad sn hsh, oX (ad 10) 12 [.ref (ad 28), .int (nI 0), .int (bI ml), .int (nI len)], aB G (ad 28) 60 (nF ch)] := hD
        have h_16 : r_16 = (bI (if (rvI (rdR ch len 0 255 (eqP ch len at_)).1 (rdR ch len 0 255 (eqP ch len at_)).2.1) = (-1000) then false else true)) := h_16
        rw [h_16]
        refine W.eq (g2 := F0 m 73 ls [.int (bI ((rdR ch len 0 255 (eqP ch len at_)).1))]) (by rw [rv_b (by omega)]) ?_
        refine B_if_eq (tgt := 80) hx hb dX10_rest_73 (by decide) (fun c_73 => ?_) (fun c_73 => ?_)
        · skip
          refine lv_iconst (v := nI 0) hx hb dX10_rest_80 (by decide) ?_
          have e_17 : ((rdR ch len 0 255 (eqP ch len at_)).2.2) = (rsP ch len cd at_) := by first | (rw [(rs_d c_1_100).2, (as_1 c_86).2]; done) | (rw [(rs_d c_1_100).2, (as_2 c_86 c_95).2]; done) | (rw [(rs_d c_1_100).2, (as_d hat c_86 c_95).2.1]; done) | (rw [(rs_p c_1_112).2, (as_1 c_48).2]; done) | (rw [(rs_p c_1_112).2, (as_2 c_48 c_57).2]; done) | (rw [(rs_p c_1_112).2, (as_p c_48 c_57).2.1]; done) | (rw [(rs_l c_1_108).2]; done) | (rw [(rs_t c_1_116).2]; done) | (rw [(rs_o (by omega)).2]; done)
          rw [show [oX r 9 [.ref fo, .int (nI many), .int (nI ((rdR ch len 0 255 (eqP ch len at_)).2.2)), .ref h], aI G fo 240 (upd u_11 (4 * many + 3) (rvI (rdR ch len 0 255 (eqP ch len at_)).1 (rdR ch len 0 255 (eqP ch len at_)).2.1)), oC h ad sn hsh, oX (ad 10) 12 [.ref (ad 28), .int (nI 0), .int (bI ml), .int (nI len)], aB G (ad 28) 60 (nF ch)] = [oX r 9 [.ref fo, .int (nI many), .int (nI (rsP ch len cd at_)), .ref h], aI G fo 240 (upd u_11 (4 * many + 3) (rvI (rdR ch len 0 255 (eqP ch len at_)).1 (rdR ch len 0 255 (eqP ch len at_)).2.1)), oC h ad sn hsh, oX (ad 10) 12 [.ref (ad 28), .int (nI 0), .int (bI ml), .int (nI len)], aB G (ad 28) 60 (nF ch)] from congrArg (fun z_ => [oX r 9 [.ref fo, .int (nI many), .int (nI z_), .ref h], aI G fo 240 (upd u_11 (4 * many + 3) (rvI (rdR ch len 0 255 (eqP ch len at_)).1 (rdR ch len 0 255 (eqP ch len at_)).2.1)), oC h ad sn hsh, oX (ad 10) 12 [.ref (ad 28), .int (nI 0), .int (bI ml), .int (nI len)], aB G (ad 28) 60 (nF ch)]) e_17] at hP hD
          have hP : va_P G.1 vwCl [oX r 9 [.ref fo, .int (nI many), .int (nI (rsP ch len cd at_)), .ref h], aI G fo 240 (upd u_11 (4 * many + 3) (rvI (rdR ch len 0 255 (eqP ch len at_)).1 (rdR ch len 0 255 (eqP ch len at_)).2.1)), oC h ad sn hsh, oX (ad 10) 12 [.ref (ad 28), .int (nI 0), .int (bI ml), .int (nI len)], aB G (ad 28) 60 (nF ch)] _ := hP
          have hD : va_D A [oX r 9 [.ref fo, .int (nI many), .int (nI (rsP ch len cd at_)), .ref h], aI G fo 240 (upd u_11 (4 * many + 3) (rvI (rdR ch len 0 255 (eqP ch len at_)).1 (rdR ch len 0 255 (eqP ch len at_)).2.1)), oC h ad sn hsh, oX (ad 10) 12 [.ref (ad 28), .int (nI 0), .int (bI ml), .int (nI len)], aB G (ad 28) 60 (nF ch)] := hD
          rw [hQQ]
          exact rt_z hx hb hr hlk (by first | exact bI_nar _ | rfl) ((upd u_11 (4 * many + 3) (rvI (rdR ch len 0 255 (eqP ch len at_)).1 (rdR ch len 0 255 (eqP ch len at_)).2.1))) dX10_rest_81 hP hD hS (by first | exact Nat.le_of_ble_eq_true rfl | (simp only [rm_X10_rest, rm_X10_cell, rm_X10_takes, rm_X10_difference, rm_X10_number, rm_X10_put]; omega) | omega) (by first | exact Nat.le_of_ble_eq_true rfl | (simp only [rm_X10_rest, rm_X10_cell, rm_X10_takes, rm_X10_difference, rm_X10_number, rm_X10_put]; omega) | omega) ⟨(by first | (rw [(rs_d c_1_100).1, (as_1 c_86).1]; rfl) | (rw [(rs_d c_1_100).1, (as_2 c_86 c_95).1]; rfl) | (rw [(rs_d c_1_100).1, (as_d hat c_86 c_95).1, c_102]; rfl) | (rw [(rs_p c_1_112).1, (as_1 c_48).1]; rfl) | (rw [(rs_p c_1_112).1, (as_2 c_48 c_57).1]; rfl) | (rw [(rs_p c_1_112).1, (as_p c_48 c_57).1, c_73]; rfl) | (rw [(rs_l c_1_108).1]; done) | (rw [(rs_t c_1_116).1]; done) | (rw [(rs_o (by omega)).1]; rfl)), by refine ⟨(by first | exact fdS_r | exact fdS_u fdS_r (by omega) | exact hcl.1 | exact fdS_u hcl.1 (by omega)), fun hf_ => ?_⟩; first | (rw [(rs_d c_1_100).1, (as_1 c_86).1] at hf_; cases hf_; done) | (rw [(rs_d c_1_100).1, (as_2 c_86 c_95).1] at hf_; cases hf_; done) | (rw [(rs_d c_1_100).1, (as_d hat c_86 c_95).1, c_102] at hf_; cases hf_; done) | (rw [(rs_p c_1_112).1, (as_1 c_48).1] at hf_; cases hf_; done) | (rw [(rs_p c_1_112).1, (as_2 c_48 c_57).1] at hf_; cases hf_; done) | (rw [(rs_p c_1_112).1, (as_p c_48 c_57).1, c_73] at hf_; cases hf_; done) | exact fd_as (Or.inl ⟨c_1_100, rfl⟩) (hcl.2 c_86).1 (hcl.2 c_86).2 (as_d hat c_86 c_95).2.2.1 (as_d hat c_86 c_95).2.2.2.1 (by rw [(as_d hat c_86 c_95).2.2.2.2, c_102]) | exact fd_as (Or.inr ⟨c_1_112, rfl⟩) (hcl.2 c_48).1 (hcl.2 c_48).2 (as_p c_48 c_57).2.2.1 (as_p c_48 c_57).2.2.2.1 (by rw [(as_p c_48 c_57).2.2.2.2, c_73]; rfl) | exact fd_1 (Or.inl ⟨c_1_108, rfl, rfl⟩) (by rw [(rs_l c_1_108).1] at hf_; exact hf_) | exact fd_1 (Or.inr ⟨c_1_116, rfl, rfl⟩) (by rw [(rs_t c_1_116).1] at hf_; exact hf_) | exact ⟨fun z => by omega, fun z => by omega, fun z => by omega⟩⟩
        · skip
          refine lv_iconst (v := nI 1) hx hb dX10_rest_76 (by decide) ?_
          refine lv_goto (tgt := 81) hx hb dX10_rest_77 (by decide) ?_
          have e_18 : ((rdR ch len 0 255 (eqP ch len at_)).2.2) = (rsP ch len cd at_) := by first | (rw [(rs_d c_1_100).2, (as_1 c_86).2]; done) | (rw [(rs_d c_1_100).2, (as_2 c_86 c_95).2]; done) | (rw [(rs_d c_1_100).2, (as_d hat c_86 c_95).2.1]; done) | (rw [(rs_p c_1_112).2, (as_1 c_48).2]; done) | (rw [(rs_p c_1_112).2, (as_2 c_48 c_57).2]; done) | (rw [(rs_p c_1_112).2, (as_p c_48 c_57).2.1]; done) | (rw [(rs_l c_1_108).2]; done) | (rw [(rs_t c_1_116).2]; done) | (rw [(rs_o (by omega)).2]; done)
          rw [show [oX r 9 [.ref fo, .int (nI many), .int (nI ((rdR ch len 0 255 (eqP ch len at_)).2.2)), .ref h], aI G fo 240 (upd u_11 (4 * many + 3) (rvI (rdR ch len 0 255 (eqP ch len at_)).1 (rdR ch len 0 255 (eqP ch len at_)).2.1)), oC h ad sn hsh, oX (ad 10) 12 [.ref (ad 28), .int (nI 0), .int (bI ml), .int (nI len)], aB G (ad 28) 60 (nF ch)] = [oX r 9 [.ref fo, .int (nI many), .int (nI (rsP ch len cd at_)), .ref h], aI G fo 240 (upd u_11 (4 * many + 3) (rvI (rdR ch len 0 255 (eqP ch len at_)).1 (rdR ch len 0 255 (eqP ch len at_)).2.1)), oC h ad sn hsh, oX (ad 10) 12 [.ref (ad 28), .int (nI 0), .int (bI ml), .int (nI len)], aB G (ad 28) 60 (nF ch)] from congrArg (fun z_ => [oX r 9 [.ref fo, .int (nI many), .int (nI z_), .ref h], aI G fo 240 (upd u_11 (4 * many + 3) (rvI (rdR ch len 0 255 (eqP ch len at_)).1 (rdR ch len 0 255 (eqP ch len at_)).2.1)), oC h ad sn hsh, oX (ad 10) 12 [.ref (ad 28), .int (nI 0), .int (bI ml), .int (nI len)], aB G (ad 28) 60 (nF ch)]) e_18] at hP hD
          have hP : va_P G.1 vwCl [oX r 9 [.ref fo, .int (nI many), .int (nI (rsP ch len cd at_)), .ref h], aI G fo 240 (upd u_11 (4 * many + 3) (rvI (rdR ch len 0 255 (eqP ch len at_)).1 (rdR ch len 0 255 (eqP ch len at_)).2.1)), oC h ad sn hsh, oX (ad 10) 12 [.ref (ad 28), .int (nI 0), .int (bI ml), .int (nI len)], aB G (ad 28) 60 (nF ch)] _ := hP
          have hD : va_D A [oX r 9 [.ref fo, .int (nI many), .int (nI (rsP ch len cd at_)), .ref h], aI G fo 240 (upd u_11 (4 * many + 3) (rvI (rdR ch len 0 255 (eqP ch len at_)).1 (rdR ch len 0 255 (eqP ch len at_)).2.1)), oC h ad sn hsh, oX (ad 10) 12 [.ref (ad 28), .int (nI 0), .int (bI ml), .int (nI len)], aB G (ad 28) 60 (nF ch)] := hD
          rw [hQQ]
          exact rt_z hx hb hr hlk (by first | exact bI_nar _ | rfl) ((upd u_11 (4 * many + 3) (rvI (rdR ch len 0 255 (eqP ch len at_)).1 (rdR ch len 0 255 (eqP ch len at_)).2.1))) dX10_rest_81 hP hD hS (by first | exact Nat.le_of_ble_eq_true rfl | (simp only [rm_X10_rest, rm_X10_cell, rm_X10_takes, rm_X10_difference, rm_X10_number, rm_X10_put]; omega) | omega) (by first | exact Nat.le_of_ble_eq_true rfl | (simp only [rm_X10_rest, rm_X10_cell, rm_X10_takes, rm_X10_difference, rm_X10_number, rm_X10_put]; omega) | omega) ⟨(by first | (rw [(rs_d c_1_100).1, (as_1 c_86).1]; rfl) | (rw [(rs_d c_1_100).1, (as_2 c_86 c_95).1]; rfl) | (rw [(rs_d c_1_100).1, (as_d hat c_86 c_95).1, c_102]; rfl) | (rw [(rs_p c_1_112).1, (as_1 c_48).1]; rfl) | (rw [(rs_p c_1_112).1, (as_2 c_48 c_57).1]; rfl) | (rw [(rs_p c_1_112).1, (as_p c_48 c_57).1, c_73]; rfl) | (rw [(rs_l c_1_108).1]; done) | (rw [(rs_t c_1_116).1]; done) | (rw [(rs_o (by omega)).1]; rfl)), by refine ⟨(by first | exact fdS_r | exact fdS_u fdS_r (by omega) | exact hcl.1 | exact fdS_u hcl.1 (by omega)), fun hf_ => ?_⟩; first | (rw [(rs_d c_1_100).1, (as_1 c_86).1] at hf_; cases hf_; done) | (rw [(rs_d c_1_100).1, (as_2 c_86 c_95).1] at hf_; cases hf_; done) | (rw [(rs_d c_1_100).1, (as_d hat c_86 c_95).1, c_102] at hf_; cases hf_; done) | (rw [(rs_p c_1_112).1, (as_1 c_48).1] at hf_; cases hf_; done) | (rw [(rs_p c_1_112).1, (as_2 c_48 c_57).1] at hf_; cases hf_; done) | (rw [(rs_p c_1_112).1, (as_p c_48 c_57).1, c_73] at hf_; cases hf_; done) | exact fd_as (Or.inl ⟨c_1_100, rfl⟩) (hcl.2 c_86).1 (hcl.2 c_86).2 (as_d hat c_86 c_95).2.2.1 (as_d hat c_86 c_95).2.2.2.1 (by rw [(as_d hat c_86 c_95).2.2.2.2, c_102]) | exact fd_as (Or.inr ⟨c_1_112, rfl⟩) (hcl.2 c_48).1 (hcl.2 c_48).2 (as_p c_48 c_57).2.2.1 (as_p c_48 c_57).2.2.2.1 (by rw [(as_p c_48 c_57).2.2.2.2, c_73]; rfl) | exact fd_1 (Or.inl ⟨c_1_108, rfl, rfl⟩) (by rw [(rs_l c_1_108).1] at hf_; exact hf_) | exact fd_1 (Or.inr ⟨c_1_116, rfl, rfl⟩) (by rw [(rs_t c_1_116).1] at hf_; exact hf_) | exact ⟨fun z => by omega, fun z => by omega, fun z => by omega⟩⟩
  by_cases c_1_116 : cd = 116
  · rw [show nI cd = nI 116 by rw [c_1_116]]
    refine lv_lookup (tgt := 111) hx hb dX10_rest_1 (by decide) (by rfl) (by decide) ?_
    refine lv_aload_n hx hb dX10_rest_111 rfl (lv_at hl 0 rfl) ?_
    refine lv_iconst (v := nI 1) hx hb dX10_rest_112 (by decide) ?_
    refine lv_aload_n hx hb dX10_rest_113 rfl (lv_at hl 0 rfl) ?_
    refine lv_iconst (v := nI 0) hx hb dX10_rest_114 (by decide) ?_
    refine lv_sipush (v := nI 255) hx hb dX10_rest_115 (by decide) ?_
    refine fin_i (ws' := (fun (_ : Unit) => [oX r 9 [.ref fo, .int (nI many), .int (nI ((rdR ch len 0 255 at_).2.2)), .ref h], aI G fo 240 fd, oC h ad sn hsh, oX (ad 10) 12 [.ref (ad 28), .int (nI 0), .int (bI ml), .int (nI len)], aB G (ad 28) 60 (nF ch)])) hA hS hP hD [0, 2, 3, 4] rfl [(true, 0), (false, 1), (true, 1), (true, 2), (true, 3)] (fun _ => rfl) (by decide) (run_V (As := [.int (nI 0), .int (nI 255)]) (rest := [.int (nI 1), .ref r]) (n9 := 2) hx hb hml hown hts hE hAb hl.1 hS hP hD [0, 2, 3, 4] rfl (by decide) (t_X10_number l G b0 _ r fo many at_ h len ad sn hsh ml ch 0 255 (by omega) (by omega) (by exact hch) (by omega) (by omega)) (lw_V q1014 q1016 qs14 q142 q1017) 0 rfl rfl ⟨rfl, by decide, by decide, by decide +kernel⟩ ⟨Nat.le_of_ble_eq_true rfl, Nat.le_of_ble_eq_true rfl⟩ ⟨by first | exact Nat.le_of_ble_eq_true rfl | (simp only [rm_X10_rest, rm_X10_number, rm_X10_cell, rm_X10_takes, rm_X10_difference, rm_X10_put]; omega), by first | exact Nat.le_of_ble_eq_true rfl | (simp only [rm_X10_rest, rm_X10_number, rm_X10_cell, rm_X10_takes, rm_X10_difference, rm_X10_put]; omega)⟩ dX10_rest_118 (Nat.le_of_ble_eq_true rfl) rfl rfl) (fun r_19 u_19 H locs h_19 hP hD hS => ?_)
    have hP : va_P G.1 vwCl [oX r 9 [.ref fo, .int (nI many), .int (nI ((rdR ch len 0 255 at_).2.2)), .ref h], aI G fo 240 fd, oC h ad sn hsh, oX (ad 10) 12 [.ref (ad 28), .int (nI 0), .int (bI ml), .int (nI len)], aB G (ad 28) 60 (nF ch)] _ := hP
    have hD : va_D A [oX r 9 [.ref fo, .int (nI many), .int (nI ((rdR ch len 0 255 at_).2.2)), .ref h], aI G fo 240 fd, oC h ad sn hsh, oX (ad 10) 12 [.ref (ad 28), .int (nI 0), .int (bI ml), .int (nI len)], aB G (ad 28) 60 (nF ch)] := hD
    have h_19 : r_19 = (rvI (rdR ch len 0 255 at_).1 (rdR ch len 0 255 at_).2.1) := h_19
    rw [h_19]
    refine fin_i (ws' := (fun (_ : Unit) => [oX r 9 [.ref fo, .int (nI many), .int (nI ((rdR ch len 0 255 at_).2.2)), .ref h], aI G fo 240 (upd fd (4 * many + 1) (rvI (rdR ch len 0 255 at_).1 (rdR ch len 0 255 at_).2.1)), oC h ad sn hsh, oX (ad 10) 12 [.ref (ad 28), .int (nI 0), .int (bI ml), .int (nI len)], aB G (ad 28) 60 (nF ch)])) hA hS hP hD [0, 1] rfl [(true, 0), (true, 1), (false, 2), (false, 3), (false, 4)] (fun _ => rfl) (by decide) (run_V (As := [.int (nI 1), .int (rvI (rdR ch len 0 255 at_).1 (rdR ch len 0 255 at_).2.1)]) (rest := []) (n9 := 2) hx hb hml hown hts hE hAb hl.1 hS hP hD [0, 1] rfl (by decide) (t_X10_put l G b0 _ r fo many ((rdR ch len 0 255 at_).2.2) h 1 fd (rvI (rdR ch len 0 255 at_).1 (rdR ch len 0 255 at_).2.1) (by omega) (by omega)) (lw_V q1022 q1024 qs15 q142 q1025) 0 rfl rfl ⟨rfl, by decide, by decide, by decide +kernel⟩ ⟨Nat.le_of_ble_eq_true rfl, Nat.le_of_ble_eq_true rfl⟩ ⟨by first | exact Nat.le_of_ble_eq_true rfl | (simp only [rm_X10_rest, rm_X10_put, rm_X10_cell, rm_X10_takes, rm_X10_difference, rm_X10_number]; omega), by first | exact Nat.le_of_ble_eq_true rfl | (simp only [rm_X10_rest, rm_X10_put, rm_X10_cell, rm_X10_takes, rm_X10_difference, rm_X10_number]; omega)⟩ dX10_rest_121 (Nat.le_of_ble_eq_true rfl) rfl rfl) (fun r_20 u_20 H locs h_20 hP hD hS => ?_)
    have hP : va_P G.1 vwCl [oX r 9 [.ref fo, .int (nI many), .int (nI ((rdR ch len 0 255 at_).2.2)), .ref h], aI G fo 240 (upd fd (4 * many + 1) (rvI (rdR ch len 0 255 at_).1 (rdR ch len 0 255 at_).2.1)), oC h ad sn hsh, oX (ad 10) 12 [.ref (ad 28), .int (nI 0), .int (bI ml), .int (nI len)], aB G (ad 28) 60 (nF ch)] _ := hP
    have hD : va_D A [oX r 9 [.ref fo, .int (nI many), .int (nI ((rdR ch len 0 255 at_).2.2)), .ref h], aI G fo 240 (upd fd (4 * many + 1) (rvI (rdR ch len 0 255 at_).1 (rdR ch len 0 255 at_).2.1)), oC h ad sn hsh, oX (ad 10) 12 [.ref (ad 28), .int (nI 0), .int (bI ml), .int (nI len)], aB G (ad 28) 60 (nF ch)] := hD
    have h_20 : r_20 = (bI (if (rvI (rdR ch len 0 255 at_).1 (rdR ch len 0 255 at_).2.1) = (-1000) then false else true)) := h_20
    rw [h_20]
    refine W.eq (g2 := F0 m 124 ls [.int (bI ((rdR ch len 0 255 at_).1))]) (by rw [rv_b (by omega)]) ?_
    have e_21 : ((rdR ch len 0 255 at_).2.2) = (rsP ch len cd at_) := by first | (rw [(rs_d c_1_100).2, (as_1 c_86).2]; done) | (rw [(rs_d c_1_100).2, (as_2 c_86 c_95).2]; done) | (rw [(rs_d c_1_100).2, (as_d hat c_86 c_95).2.1]; done) | (rw [(rs_p c_1_112).2, (as_1 c_48).2]; done) | (rw [(rs_p c_1_112).2, (as_2 c_48 c_57).2]; done) | (rw [(rs_p c_1_112).2, (as_p c_48 c_57).2.1]; done) | (rw [(rs_l c_1_108).2]; done) | (rw [(rs_t c_1_116).2]; done) | (rw [(rs_o (by omega)).2]; done)
    rw [show [oX r 9 [.ref fo, .int (nI many), .int (nI ((rdR ch len 0 255 at_).2.2)), .ref h], aI G fo 240 (upd fd (4 * many + 1) (rvI (rdR ch len 0 255 at_).1 (rdR ch len 0 255 at_).2.1)), oC h ad sn hsh, oX (ad 10) 12 [.ref (ad 28), .int (nI 0), .int (bI ml), .int (nI len)], aB G (ad 28) 60 (nF ch)] = [oX r 9 [.ref fo, .int (nI many), .int (nI (rsP ch len cd at_)), .ref h], aI G fo 240 (upd fd (4 * many + 1) (rvI (rdR ch len 0 255 at_).1 (rdR ch len 0 255 at_).2.1)), oC h ad sn hsh, oX (ad 10) 12 [.ref (ad 28), .int (nI 0), .int (bI ml), .int (nI len)], aB G (ad 28) 60 (nF ch)] from congrArg (fun z_ => [oX r 9 [.ref fo, .int (nI many), .int (nI z_), .ref h], aI G fo 240 (upd fd (4 * many + 1) (rvI (rdR ch len 0 255 at_).1 (rdR ch len 0 255 at_).2.1)), oC h ad sn hsh, oX (ad 10) 12 [.ref (ad 28), .int (nI 0), .int (bI ml), .int (nI len)], aB G (ad 28) 60 (nF ch)]) e_21] at hP hD
    have hP : va_P G.1 vwCl [oX r 9 [.ref fo, .int (nI many), .int (nI (rsP ch len cd at_)), .ref h], aI G fo 240 (upd fd (4 * many + 1) (rvI (rdR ch len 0 255 at_).1 (rdR ch len 0 255 at_).2.1)), oC h ad sn hsh, oX (ad 10) 12 [.ref (ad 28), .int (nI 0), .int (bI ml), .int (nI len)], aB G (ad 28) 60 (nF ch)] _ := hP
    have hD : va_D A [oX r 9 [.ref fo, .int (nI many), .int (nI (rsP ch len cd at_)), .ref h], aI G fo 240 (upd fd (4 * many + 1) (rvI (rdR ch len 0 255 at_).1 (rdR ch len 0 255 at_).2.1)), oC h ad sn hsh, oX (ad 10) 12 [.ref (ad 28), .int (nI 0), .int (bI ml), .int (nI len)], aB G (ad 28) 60 (nF ch)] := hD
    rw [hQQ]
    exact rt_z hx hb hr hlk (by first | exact bI_nar _ | rfl) ((upd fd (4 * many + 1) (rvI (rdR ch len 0 255 at_).1 (rdR ch len 0 255 at_).2.1))) dX10_rest_124 hP hD hS (by first | exact Nat.le_of_ble_eq_true rfl | (simp only [rm_X10_rest, rm_X10_cell, rm_X10_takes, rm_X10_difference, rm_X10_number, rm_X10_put]; omega) | omega) (by first | exact Nat.le_of_ble_eq_true rfl | (simp only [rm_X10_rest, rm_X10_cell, rm_X10_takes, rm_X10_difference, rm_X10_number, rm_X10_put]; omega) | omega) ⟨(by first | (rw [(rs_d c_1_100).1, (as_1 c_86).1]; rfl) | (rw [(rs_d c_1_100).1, (as_2 c_86 c_95).1]; rfl) | (rw [(rs_d c_1_100).1, (as_d hat c_86 c_95).1, c_102]; rfl) | (rw [(rs_p c_1_112).1, (as_1 c_48).1]; rfl) | (rw [(rs_p c_1_112).1, (as_2 c_48 c_57).1]; rfl) | (rw [(rs_p c_1_112).1, (as_p c_48 c_57).1, c_73]; rfl) | (rw [(rs_l c_1_108).1]; done) | (rw [(rs_t c_1_116).1]; done) | (rw [(rs_o (by omega)).1]; rfl)), by refine ⟨(by first | exact fdS_r | exact fdS_u fdS_r (by omega) | exact hcl.1 | exact fdS_u hcl.1 (by omega)), fun hf_ => ?_⟩; first | (rw [(rs_d c_1_100).1, (as_1 c_86).1] at hf_; cases hf_; done) | (rw [(rs_d c_1_100).1, (as_2 c_86 c_95).1] at hf_; cases hf_; done) | (rw [(rs_d c_1_100).1, (as_d hat c_86 c_95).1, c_102] at hf_; cases hf_; done) | (rw [(rs_p c_1_112).1, (as_1 c_48).1] at hf_; cases hf_; done) | (rw [(rs_p c_1_112).1, (as_2 c_48 c_57).1] at hf_; cases hf_; done) | (rw [(rs_p c_1_112).1, (as_p c_48 c_57).1, c_73] at hf_; cases hf_; done) | exact fd_as (Or.inl ⟨c_1_100, rfl⟩) (hcl.2 c_86).1 (hcl.2 c_86).2 (as_d hat c_86 c_95).2.2.1 (as_d hat c_86 c_95).2.2.2.1 (by rw [(as_d hat c_86 c_95).2.2.2.2, c_102]) | exact fd_as (Or.inr ⟨c_1_112, rfl⟩) (hcl.2 c_48).1 (hcl.2 c_48).2 (as_p c_48 c_57).2.2.1 (as_p c_48 c_57).2.2.2.1 (by rw [(as_p c_48 c_57).2.2.2.2, c_73]; rfl) | exact fd_1 (Or.inl ⟨c_1_108, rfl, rfl⟩) (by rw [(rs_l c_1_108).1] at hf_; exact hf_) | exact fd_1 (Or.inr ⟨c_1_116, rfl, rfl⟩) (by rw [(rs_t c_1_116).1] at hf_; exact hf_) | exact ⟨fun z => by omega, fun z => by omega, fun z => by omega⟩⟩
  refine N_lokD (tgt := 137) hx hb dX10_rest_1 (by decide) (by omega) (fun q hq => by have hq : q ∈ ([(100, 81), (108, 124), (112, 43), (116, 110)] : List (Int × Int)) := hq; simp only [List.mem_cons, List.not_mem_nil, or_false] at hq; rcases hq with e9 | e9 | e9 | e9 <;> rw [e9] <;> (dsimp only; omega)) (by decide) ?_
  refine lv_iconst (v := nI 1) hx hb dX10_rest_137 (by decide) ?_
  have e_22 : (at_) = (rsP ch len cd at_) := by first | (rw [(rs_d c_1_100).2, (as_1 c_86).2]; done) | (rw [(rs_d c_1_100).2, (as_2 c_86 c_95).2]; done) | (rw [(rs_d c_1_100).2, (as_d hat c_86 c_95).2.1]; done) | (rw [(rs_p c_1_112).2, (as_1 c_48).2]; done) | (rw [(rs_p c_1_112).2, (as_2 c_48 c_57).2]; done) | (rw [(rs_p c_1_112).2, (as_p c_48 c_57).2.1]; done) | (rw [(rs_l c_1_108).2]; done) | (rw [(rs_t c_1_116).2]; done) | (rw [(rs_o (by omega)).2]; done)
  rw [show [oX r 9 [.ref fo, .int (nI many), .int (nI at_), .ref h], aI G fo 240 fd, oC h ad sn hsh, oX (ad 10) 12 [.ref (ad 28), .int (nI 0), .int (bI ml), .int (nI len)], aB G (ad 28) 60 (nF ch)] = [oX r 9 [.ref fo, .int (nI many), .int (nI (rsP ch len cd at_)), .ref h], aI G fo 240 fd, oC h ad sn hsh, oX (ad 10) 12 [.ref (ad 28), .int (nI 0), .int (bI ml), .int (nI len)], aB G (ad 28) 60 (nF ch)] from congrArg (fun z_ => [oX r 9 [.ref fo, .int (nI many), .int (nI z_), .ref h], aI G fo 240 fd, oC h ad sn hsh, oX (ad 10) 12 [.ref (ad 28), .int (nI 0), .int (bI ml), .int (nI len)], aB G (ad 28) 60 (nF ch)]) e_22] at hP hD
  have hP : va_P G.1 vwCl [oX r 9 [.ref fo, .int (nI many), .int (nI (rsP ch len cd at_)), .ref h], aI G fo 240 fd, oC h ad sn hsh, oX (ad 10) 12 [.ref (ad 28), .int (nI 0), .int (bI ml), .int (nI len)], aB G (ad 28) 60 (nF ch)] _ := hP
  have hD : va_D A [oX r 9 [.ref fo, .int (nI many), .int (nI (rsP ch len cd at_)), .ref h], aI G fo 240 fd, oC h ad sn hsh, oX (ad 10) 12 [.ref (ad 28), .int (nI 0), .int (bI ml), .int (nI len)], aB G (ad 28) 60 (nF ch)] := hD
  rw [hQQ]
  exact rt_z hx hb hr hlk (by first | exact bI_nar _ | rfl) fd dX10_rest_138 hP hD hS (by first | exact Nat.le_of_ble_eq_true rfl | (simp only [rm_X10_rest, rm_X10_cell, rm_X10_takes, rm_X10_difference, rm_X10_number, rm_X10_put]; omega) | omega) (by first | exact Nat.le_of_ble_eq_true rfl | (simp only [rm_X10_rest, rm_X10_cell, rm_X10_takes, rm_X10_difference, rm_X10_number, rm_X10_put]; omega) | omega) ⟨(by first | (rw [(rs_d c_1_100).1, (as_1 c_86).1]; rfl) | (rw [(rs_d c_1_100).1, (as_2 c_86 c_95).1]; rfl) | (rw [(rs_d c_1_100).1, (as_d hat c_86 c_95).1, c_102]; rfl) | (rw [(rs_p c_1_112).1, (as_1 c_48).1]; rfl) | (rw [(rs_p c_1_112).1, (as_2 c_48 c_57).1]; rfl) | (rw [(rs_p c_1_112).1, (as_p c_48 c_57).1, c_73]; rfl) | (rw [(rs_l c_1_108).1]; done) | (rw [(rs_t c_1_116).1]; done) | (rw [(rs_o (by omega)).1]; rfl)), by refine ⟨(by first | exact fdS_r | exact fdS_u fdS_r (by omega) | exact hcl.1 | exact fdS_u hcl.1 (by omega)), fun hf_ => ?_⟩; first | (rw [(rs_d c_1_100).1, (as_1 c_86).1] at hf_; cases hf_; done) | (rw [(rs_d c_1_100).1, (as_2 c_86 c_95).1] at hf_; cases hf_; done) | (rw [(rs_d c_1_100).1, (as_d hat c_86 c_95).1, c_102] at hf_; cases hf_; done) | (rw [(rs_p c_1_112).1, (as_1 c_48).1] at hf_; cases hf_; done) | (rw [(rs_p c_1_112).1, (as_2 c_48 c_57).1] at hf_; cases hf_; done) | (rw [(rs_p c_1_112).1, (as_p c_48 c_57).1, c_73] at hf_; cases hf_; done) | exact fd_as (Or.inl ⟨c_1_100, rfl⟩) (hcl.2 c_86).1 (hcl.2 c_86).2 (as_d hat c_86 c_95).2.2.1 (as_d hat c_86 c_95).2.2.2.1 (by rw [(as_d hat c_86 c_95).2.2.2.2, c_102]) | exact fd_as (Or.inr ⟨c_1_112, rfl⟩) (hcl.2 c_48).1 (hcl.2 c_48).2 (as_p c_48 c_57).2.2.1 (as_p c_48 c_57).2.2.2.1 (by rw [(as_p c_48 c_57).2.2.2.2, c_73]; rfl) | exact fd_1 (Or.inl ⟨c_1_108, rfl, rfl⟩) (by rw [(rs_l c_1_108).1] at hf_; exact hf_) | exact fd_1 (Or.inr ⟨c_1_116, rfl, rfl⟩) (by rw [(rs_t c_1_116).1] at hf_; exact hf_) | exact ⟨fun z => by omega, fun z => by omega, fun z => by omega⟩⟩
def rm_X10_isSign : Room := ({ frames := 0, cells := 0, slots := 0, locals := 0 } : Room)
set_option maxHeartbeats 400000 in
set_option maxRecDepth 100000 in
theorem t_X10_isSign (l : Launch) (G : GG) (b0 sz : Nat) (r fo many at_ h cd : Nat) (hc : cd ≤ 126) : CT l yX10_isSign cX10_isSign 3 (some FieldType.boolean) (rm_X10_isSign) G b0 [.ref r, .int (nI cd)] [oX r 9 [.ref fo, .int (nI many), .int (nI at_), .ref h]] sz (Ri G (fun (r_ : Int32) (_ : Unit) => r_ = bI (sgnB cd)) (fun (_ : Unit) => [oX r 9 [.ref fo, .int (nI many), .int (nI at_), .ref h]])) := by
  refine CT.go (by decide) (Nat.le_of_ble_eq_true rfl) (fun p e s m below meth c A ls AR QQ hx hb hr hlk hml hown hnm hts hE hA hAb hsz hP hD hS hl hQQ => ?_)
  have hK := hE.1
  have hown : s.vm.findClass RX10 = some m.cls := hown
  have hl : lv_has ls 3 [(0, .ref r), (1, .int (nI cd))] := hl
  clear hsz
  refine lv_iload_n hx hb dX10_isSign_0 rfl (lv_at hl 1 rfl) ?_
  refine lv_bipush (v := nI 112) hx hb dX10_isSign_1 (by decide) ?_
  refine N_icmp_eq (tgt := 24) hx hb dX10_isSign_3 (by decide) (by omega) (by omega) (fun c_3 => ?_) (fun c_3 => ?_)
  · skip
    refine lv_iconst (v := nI 1) hx hb dX10_isSign_24 (by decide) ?_
    refine lv_goto (tgt := 29) hx hb dX10_isSign_25 (by decide) ?_
    refine lv_istore_n (lv' := [(2, .int (nI 1)), (0, .ref r), (1, .int (nI cd))]) hx hb dX10_isSign_29 rfl hl (by decide) rfl (fun ls hl => ?_)
    refine lv_iload_n hx hb dX10_isSign_30 rfl (lv_at hl 0 rfl) ?_
    refine N_if_ne (tgt := 52) hx hb dX10_isSign_31 (by decide) (by omega) (fun c_31 => ?_) (fun c_31 => ?_)
    · skip
      refine lv_iconst (v := nI 1) hx hb dX10_isSign_52 (by decide) ?_
      refine lv_goto (tgt := 57) hx hb dX10_isSign_53 (by decide) ?_
      rw [hQQ]
      exact rt_z hx hb hr hlk (by first | exact bI_nar _ | rfl) ((())) dX10_isSign_57 hP hD hS (by first | exact Nat.le_of_ble_eq_true rfl | (simp only [rm_X10_isSign]; omega) | omega) (by first | exact Nat.le_of_ble_eq_true rfl | (simp only [rm_X10_isSign]; omega) | omega) (by first | exact bI_of1 (decide_eq_true (by omega)) | exact bI_of0 (decide_eq_false (by omega)))
    · skip
      exfalso; omega
  · skip
    refine lv_iload_n hx hb dX10_isSign_6 rfl (lv_at hl 1 rfl) ?_
    refine lv_bipush (v := nI 100) hx hb dX10_isSign_7 (by decide) ?_
    refine N_icmp_eq (tgt := 24) hx hb dX10_isSign_9 (by decide) (by omega) (by omega) (fun c_9 => ?_) (fun c_9 => ?_)
    · skip
      refine lv_iconst (v := nI 1) hx hb dX10_isSign_24 (by decide) ?_
      refine lv_goto (tgt := 29) hx hb dX10_isSign_25 (by decide) ?_
      refine lv_istore_n (lv' := [(2, .int (nI 1)), (0, .ref r), (1, .int (nI cd))]) hx hb dX10_isSign_29 rfl hl (by decide) rfl (fun ls hl => ?_)
      refine lv_iload_n hx hb dX10_isSign_30 rfl (lv_at hl 0 rfl) ?_
      refine N_if_ne (tgt := 52) hx hb dX10_isSign_31 (by decide) (by omega) (fun c_31 => ?_) (fun c_31 => ?_)
      · skip
        refine lv_iconst (v := nI 1) hx hb dX10_isSign_52 (by decide) ?_
        refine lv_goto (tgt := 57) hx hb dX10_isSign_53 (by decide) ?_
        rw [hQQ]
        exact rt_z hx hb hr hlk (by first | exact bI_nar _ | rfl) ((())) dX10_isSign_57 hP hD hS (by first | exact Nat.le_of_ble_eq_true rfl | (simp only [rm_X10_isSign]; omega) | omega) (by first | exact Nat.le_of_ble_eq_true rfl | (simp only [rm_X10_isSign]; omega) | omega) (by first | exact bI_of1 (decide_eq_true (by omega)) | exact bI_of0 (decide_eq_false (by omega)))
      · skip
        exfalso; omega
    · skip
      refine lv_iload_n hx hb dX10_isSign_12 rfl (lv_at hl 1 rfl) ?_
      refine lv_bipush (v := nI 116) hx hb dX10_isSign_13 (by decide) ?_
      refine N_icmp_eq (tgt := 24) hx hb dX10_isSign_15 (by decide) (by omega) (by omega) (fun c_15 => ?_) (fun c_15 => ?_)
      · skip
        refine lv_iconst (v := nI 1) hx hb dX10_isSign_24 (by decide) ?_
        refine lv_goto (tgt := 29) hx hb dX10_isSign_25 (by decide) ?_
        refine lv_istore_n (lv' := [(2, .int (nI 1)), (0, .ref r), (1, .int (nI cd))]) hx hb dX10_isSign_29 rfl hl (by decide) rfl (fun ls hl => ?_)
        refine lv_iload_n hx hb dX10_isSign_30 rfl (lv_at hl 0 rfl) ?_
        refine N_if_ne (tgt := 52) hx hb dX10_isSign_31 (by decide) (by omega) (fun c_31 => ?_) (fun c_31 => ?_)
        · skip
          refine lv_iconst (v := nI 1) hx hb dX10_isSign_52 (by decide) ?_
          refine lv_goto (tgt := 57) hx hb dX10_isSign_53 (by decide) ?_
          rw [hQQ]
          exact rt_z hx hb hr hlk (by first | exact bI_nar _ | rfl) ((())) dX10_isSign_57 hP hD hS (by first | exact Nat.le_of_ble_eq_true rfl | (simp only [rm_X10_isSign]; omega) | omega) (by first | exact Nat.le_of_ble_eq_true rfl | (simp only [rm_X10_isSign]; omega) | omega) (by first | exact bI_of1 (decide_eq_true (by omega)) | exact bI_of0 (decide_eq_false (by omega)))
        · skip
          exfalso; omega
      · skip
        refine lv_iload_n hx hb dX10_isSign_18 rfl (lv_at hl 1 rfl) ?_
        refine lv_bipush (v := nI 108) hx hb dX10_isSign_19 (by decide) ?_
        refine N_icmp_ne (tgt := 28) hx hb dX10_isSign_21 (by decide) (by omega) (by omega) (fun c_21 => ?_) (fun c_21 => ?_)
        · skip
          refine lv_iconst (v := nI 0) hx hb dX10_isSign_28 (by decide) ?_
          refine lv_istore_n (lv' := [(2, .int (nI 0)), (0, .ref r), (1, .int (nI cd))]) hx hb dX10_isSign_29 rfl hl (by decide) rfl (fun ls hl => ?_)
          refine lv_iload_n hx hb dX10_isSign_30 rfl (lv_at hl 0 rfl) ?_
          refine N_if_ne (tgt := 52) hx hb dX10_isSign_31 (by decide) (by omega) (fun c_31 => ?_) (fun c_31 => ?_)
          · skip
            exfalso; omega
          · skip
            refine lv_iload_n hx hb dX10_isSign_34 rfl (lv_at hl 2 rfl) ?_
            refine lv_bipush (v := nI 114) hx hb dX10_isSign_35 (by decide) ?_
            refine N_icmp_eq (tgt := 52) hx hb dX10_isSign_37 (by decide) (by omega) (by omega) (fun c_37 => ?_) (fun c_37 => ?_)
            · skip
              refine lv_iconst (v := nI 1) hx hb dX10_isSign_52 (by decide) ?_
              refine lv_goto (tgt := 57) hx hb dX10_isSign_53 (by decide) ?_
              rw [hQQ]
              exact rt_z hx hb hr hlk (by first | exact bI_nar _ | rfl) ((())) dX10_isSign_57 hP hD hS (by first | exact Nat.le_of_ble_eq_true rfl | (simp only [rm_X10_isSign]; omega) | omega) (by first | exact Nat.le_of_ble_eq_true rfl | (simp only [rm_X10_isSign]; omega) | omega) (by first | exact bI_of1 (decide_eq_true (by omega)) | exact bI_of0 (decide_eq_false (by omega)))
            · skip
              refine lv_iload_n hx hb dX10_isSign_40 rfl (lv_at hl 2 rfl) ?_
              refine lv_bipush (v := nI 109) hx hb dX10_isSign_41 (by decide) ?_
              refine N_icmp_eq (tgt := 52) hx hb dX10_isSign_43 (by decide) (by omega) (by omega) (fun c_43 => ?_) (fun c_43 => ?_)
              · skip
                refine lv_iconst (v := nI 1) hx hb dX10_isSign_52 (by decide) ?_
                refine lv_goto (tgt := 57) hx hb dX10_isSign_53 (by decide) ?_
                rw [hQQ]
                exact rt_z hx hb hr hlk (by first | exact bI_nar _ | rfl) ((())) dX10_isSign_57 hP hD hS (by first | exact Nat.le_of_ble_eq_true rfl | (simp only [rm_X10_isSign]; omega) | omega) (by first | exact Nat.le_of_ble_eq_true rfl | (simp only [rm_X10_isSign]; omega) | omega) (by first | exact bI_of1 (decide_eq_true (by omega)) | exact bI_of0 (decide_eq_false (by omega)))
              · skip
                refine lv_iload_n hx hb dX10_isSign_46 rfl (lv_at hl 2 rfl) ?_
                refine lv_bipush (v := nI 105) hx hb dX10_isSign_47 (by decide) ?_
                refine N_icmp_ne (tgt := 56) hx hb dX10_isSign_49 (by decide) (by omega) (by omega) (fun c_49 => ?_) (fun c_49 => ?_)
                · skip
                  refine lv_iconst (v := nI 0) hx hb dX10_isSign_56 (by decide) ?_
                  rw [hQQ]
                  exact rt_z hx hb hr hlk (by first | exact bI_nar _ | rfl) ((())) dX10_isSign_57 hP hD hS (by first | exact Nat.le_of_ble_eq_true rfl | (simp only [rm_X10_isSign]; omega) | omega) (by first | exact Nat.le_of_ble_eq_true rfl | (simp only [rm_X10_isSign]; omega) | omega) (by first | exact bI_of1 (decide_eq_true (by omega)) | exact bI_of0 (decide_eq_false (by omega)))
                · skip
                  refine lv_iconst (v := nI 1) hx hb dX10_isSign_52 (by decide) ?_
                  refine lv_goto (tgt := 57) hx hb dX10_isSign_53 (by decide) ?_
                  rw [hQQ]
                  exact rt_z hx hb hr hlk (by first | exact bI_nar _ | rfl) ((())) dX10_isSign_57 hP hD hS (by first | exact Nat.le_of_ble_eq_true rfl | (simp only [rm_X10_isSign]; omega) | omega) (by first | exact Nat.le_of_ble_eq_true rfl | (simp only [rm_X10_isSign]; omega) | omega) (by first | exact bI_of1 (decide_eq_true (by omega)) | exact bI_of0 (decide_eq_false (by omega)))
        · skip
          refine lv_iconst (v := nI 1) hx hb dX10_isSign_24 (by decide) ?_
          refine lv_goto (tgt := 29) hx hb dX10_isSign_25 (by decide) ?_
          refine lv_istore_n (lv' := [(2, .int (nI 1)), (0, .ref r), (1, .int (nI cd))]) hx hb dX10_isSign_29 rfl hl (by decide) rfl (fun ls hl => ?_)
          refine lv_iload_n hx hb dX10_isSign_30 rfl (lv_at hl 0 rfl) ?_
          refine N_if_ne (tgt := 52) hx hb dX10_isSign_31 (by decide) (by omega) (fun c_31 => ?_) (fun c_31 => ?_)
          · skip
            refine lv_iconst (v := nI 1) hx hb dX10_isSign_52 (by decide) ?_
            refine lv_goto (tgt := 57) hx hb dX10_isSign_53 (by decide) ?_
            rw [hQQ]
            exact rt_z hx hb hr hlk (by first | exact bI_nar _ | rfl) ((())) dX10_isSign_57 hP hD hS (by first | exact Nat.le_of_ble_eq_true rfl | (simp only [rm_X10_isSign]; omega) | omega) (by first | exact Nat.le_of_ble_eq_true rfl | (simp only [rm_X10_isSign]; omega) | omega) (by first | exact bI_of1 (decide_eq_true (by omega)) | exact bI_of0 (decide_eq_false (by omega)))
          · skip
            exfalso; omega
def rm_X10_part : Room := ({ frames := 8, cells := 0, slots := 0, locals := 280 } : Room)
set_option maxHeartbeats 400000 in
set_option maxRecDepth 100000 in
theorem t_X10_part (l : Launch) (G : GG) (b0 sz : Nat) (r fo many at_ h len : Nat) (ad : Nat → Nat) (sn : Value) (hsh : Int64) (ml : Bool) (ch : Nat → Nat) (fd : Nat → Int32) (hat : at_ ≤ len) (hle : len ≤ 60) (hch : ∀ j, j < len → ch j ≤ 126) (hmy : many ≤ 59) : CT l yX10_part cX10_part 4 (some FieldType.boolean) (rm_X10_part) G b0 [.ref r] [oX r 9 [.ref fo, .int (nI many), .int (nI at_), .ref h], aI G fo 240 fd, oC h ad sn hsh, oX (ad 10) 12 [.ref (ad 28), .int (nI 0), .int (bI ml), .int (nI len)], aB G (ad 28) 60 (nF ch)] sz (Ri G (fun (r_ : Int32) (u : Nat → Int32) => r_ = bI ((ptO ch len at_).1) ∧ (∀ j, j < 4 * many → u j = fd j) ∧ ((ptO ch len at_).1 = true → u (4 * many) = nI (ch at_) ∧ fdD ch len (ch at_) (at_ + 1) many u)) (fun (u : Nat → Int32) => [oX r 9 [.ref fo, .int (nI (many + 1)), .int (nI ((ptO ch len at_).2)), .ref h], aI G fo 240 u, oC h ad sn hsh, oX (ad 10) 12 [.ref (ad 28), .int (nI 0), .int (bI ml), .int (nI len)], aB G (ad 28) 60 (nF ch)])) := by
  refine CT.go (by decide) (Nat.le_of_ble_eq_true rfl) (fun p e s m below meth c A ls AR QQ hx hb hr hlk hml hown hnm hts hE hA hAb hsz hP hD hS hl hQQ => ?_)
  have hK := hE.1
  have hown : s.vm.findClass RX10 = some m.cls := hown
  have hl : lv_has ls 4 [(0, .ref r)] := hl
  clear hsz
  refine lv_aload_n hx hb dX10_part_0 rfl (lv_at hl 0 rfl) ?_
  refine fin_i (ws' := (fun (_ : Unit) => [oX r 9 [.ref fo, .int (nI many), .int (nI at_), .ref h], aI G fo 240 fd, oC h ad sn hsh, oX (ad 10) 12 [.ref (ad 28), .int (nI 0), .int (bI ml), .int (nI len)], aB G (ad 28) 60 (nF ch)])) hA hS hP hD [0, 2, 3, 4] rfl [(true, 0), (false, 1), (true, 1), (true, 2), (true, 3)] (fun _ => rfl) (by decide) (run_V (As := []) (rest := []) (n9 := 0) hx hb hml hown hts hE hAb hl.1 hS hP hD [0, 2, 3, 4] rfl (by decide) (t_X10_next l G b0 _ r fo many at_ h len ad sn hsh ml ch (by omega) (by omega) (by exact hch)) (lw_V q984 q986 qs10 q142 q987) 0 rfl rfl ⟨rfl, by decide, by decide, by decide +kernel⟩ ⟨Nat.le_of_ble_eq_true rfl, Nat.le_of_ble_eq_true rfl⟩ ⟨by first | exact Nat.le_of_ble_eq_true rfl | (simp only [rm_X10_part, rm_X10_next]; omega), by first | exact Nat.le_of_ble_eq_true rfl | (simp only [rm_X10_part, rm_X10_next]; omega)⟩ dX10_part_1 (Nat.le_of_ble_eq_true rfl) rfl rfl) (fun r_1 u_1 H locs h_1 hP hD hS => ?_)
  have hP : va_P G.1 vwCl [oX r 9 [.ref fo, .int (nI many), .int (nI at_), .ref h], aI G fo 240 fd, oC h ad sn hsh, oX (ad 10) 12 [.ref (ad 28), .int (nI 0), .int (bI ml), .int (nI len)], aB G (ad 28) 60 (nF ch)] _ := hP
  have hD : va_D A [oX r 9 [.ref fo, .int (nI many), .int (nI at_), .ref h], aI G fo 240 fd, oC h ad sn hsh, oX (ad 10) 12 [.ref (ad 28), .int (nI 0), .int (bI ml), .int (nI len)], aB G (ad 28) 60 (nF ch)] := hD
  have h_1 : r_1 = (nI (nxC ch len at_)) := h_1
  rw [h_1]
  refine lv_istore_n (lv' := [(1, .int (nI (nxC ch len at_))), (0, .ref r)]) hx hb dX10_part_4 rfl hl (by decide) rfl (fun ls hl => ?_)
  have hnx := nxC_lt (i := at_) hch
  refine lv_aload_n hx hb dX10_part_5 rfl (lv_at hl 1 rfl) ?_
  refine lv_iload_n hx hb dX10_part_6 rfl (lv_at hl 0 rfl) ?_
  refine fin_i (ws' := (fun (_ : Unit) => [oX r 9 [.ref fo, .int (nI many), .int (nI at_), .ref h], aI G fo 240 fd, oC h ad sn hsh, oX (ad 10) 12 [.ref (ad 28), .int (nI 0), .int (bI ml), .int (nI len)], aB G (ad 28) 60 (nF ch)])) hA hS hP hD [0] rfl [(true, 0), (false, 1), (false, 2), (false, 3), (false, 4)] (fun _ => rfl) (by decide) (run_V (As := [.int (nI (nxC ch len at_))]) (rest := []) (n9 := 1) hx hb hml hown hts hE hAb hl.1 hS hP hD [0] rfl (by decide) (t_X10_isSign l G b0 _ r fo many at_ h (nxC ch len at_) (by omega)) (lw_V q1002 q1004 qs11 q142 q1005) 0 rfl rfl ⟨rfl, by decide, by decide, by decide +kernel⟩ ⟨Nat.le_of_ble_eq_true rfl, Nat.le_of_ble_eq_true rfl⟩ ⟨by first | exact Nat.le_of_ble_eq_true rfl | (simp only [rm_X10_part, rm_X10_isSign, rm_X10_next]; omega), by first | exact Nat.le_of_ble_eq_true rfl | (simp only [rm_X10_part, rm_X10_isSign, rm_X10_next]; omega)⟩ dX10_part_7 (Nat.le_of_ble_eq_true rfl) rfl rfl) (fun r_2 u_2 H locs h_2 hP hD hS => ?_)
  have hP : va_P G.1 vwCl [oX r 9 [.ref fo, .int (nI many), .int (nI at_), .ref h], aI G fo 240 fd, oC h ad sn hsh, oX (ad 10) 12 [.ref (ad 28), .int (nI 0), .int (bI ml), .int (nI len)], aB G (ad 28) 60 (nF ch)] _ := hP
  have hD : va_D A [oX r 9 [.ref fo, .int (nI many), .int (nI at_), .ref h], aI G fo 240 fd, oC h ad sn hsh, oX (ad 10) 12 [.ref (ad 28), .int (nI 0), .int (bI ml), .int (nI len)], aB G (ad 28) 60 (nF ch)] := hD
  have h_2 : r_2 = (bI (sgnB (nxC ch len at_))) := h_2
  rw [h_2]
  refine lv_istore_n (lv' := [(2, .int (bI (sgnB (nxC ch len at_)))), (1, .int (nI (nxC ch len at_))), (0, .ref r)]) hx hb dX10_part_10 rfl hl (by decide) rfl (fun ls hl => ?_)
  refine lv_aload_n hx hb dX10_part_11 rfl (lv_at hl 2 rfl) ?_
  refine lv_dup hx hb dX10_part_12 rfl ?_
  refine va_get (D := G.1) (ci := 9) (v := .int (nI at_)) (C := RX10) (T := TX10) (N := 4) hx hb hts in_X10 hown hK hP 0 rfl rfl 2 (by decide) (hts _ q964) (fun _ h9 => h9) rfl dX10_part_13 ?_
  refine lv_iload_n hx hb dX10_part_16 rfl (lv_at hl 0 rfl) ?_
  refine B_if_eq (tgt := 24) hx hb dX10_part_17 (by decide) (fun c_17 => ?_) (fun c_17 => ?_)
  · skip
    have hp3 := pt_f hat c_17
    have hl : lv_has ls 4 [(2, .int (nI 0)), (1, .int (nI (nxC ch len at_))), (0, .ref r)] := by rw [c_17] at hl; exact hl
    refine lv_iconst (v := nI 0) hx hb dX10_part_24 (by decide) ?_
    refine N_iadd hx hb dX10_part_25 ?_
    refine va_put (D := G.1) (ci := 9) (v := .int (nI at_)) (ty := .int) (C := RX10) (T := TX10) (N := 4) hx hb hts in_X10 tyX10 tyX10_ok nmX10 hown hK hP hD hS 0 rfl rfl 2 (by decide) (hts _ q964) (fun _ h9 => h9) rfl (by decide +kernel) rfl rfl (Nat.le_of_ble_eq_true rfl) dX10_part_26 (fun H locs hP hD hS => ?_)
    have hP : va_P G.1 vwCl [oX r 9 [.ref fo, .int (nI many), .int (nI at_), .ref h], aI G fo 240 fd, oC h ad sn hsh, oX (ad 10) 12 [.ref (ad 28), .int (nI 0), .int (bI ml), .int (nI len)], aB G (ad 28) 60 (nF ch)] _ := hP
    have hD : va_D A [oX r 9 [.ref fo, .int (nI many), .int (nI at_), .ref h], aI G fo 240 fd, oC h ad sn hsh, oX (ad 10) 12 [.ref (ad 28), .int (nI 0), .int (bI ml), .int (nI len)], aB G (ad 28) 60 (nF ch)] := hD
    refine lv_aload_n hx hb dX10_part_29 rfl (lv_at hl 2 rfl) ?_
    refine va_get (D := G.1) (ci := 9) (v := .ref fo) (C := RX10) (T := TX10) (N := 4) hx hb hts in_X10 hown hK hP 0 rfl rfl 0 (by decide) (hts _ q960) (fun _ h9 => h9) rfl dX10_part_30 ?_
    refine lv_iconst (v := nI 4) hx hb dX10_part_33 (by decide) ?_
    refine lv_aload_n hx hb dX10_part_34 rfl (lv_at hl 2 rfl) ?_
    refine va_get (D := G.1) (ci := 9) (v := .int (nI many)) (C := RX10) (T := TX10) (N := 4) hx hb hts in_X10 hown hK hP 0 rfl rfl 1 (by decide) (hts _ q962) (fun _ h9 => h9) rfl dX10_part_35 ?_
    refine N_imul hx hb dX10_part_38 ?_
    refine lv_iload_n hx hb dX10_part_39 rfl (lv_at hl 1 rfl) ?_
    refine N_iast (ws' := [oX r 9 [.ref fo, .int (nI many), .int (nI at_), .ref h], aI G fo 240 (upd fd (4 * many) (nI (nxC ch len at_))), oC h ad sn hsh, oX (ad 10) 12 [.ref (ad 28), .int (nI 0), .int (bI ml), .int (nI len)], aB G (ad 28) 60 (nF ch)]) hx hb dX10_part_40 hK hP hD hS 1 0 rfl rfl (by omega) (by omega) rfl (fun H locs hP hD hS => ?_)
    refine lv_iload_n hx hb dX10_part_41 rfl (lv_at hl 0 rfl) ?_
    refine N_if_eq (tgt := 57) hx hb dX10_part_42 (by decide) (by omega) (fun c_42 => ?_) (fun c_42 => ?_)
    · skip
      refine lv_iconst (v := nI 0) hx hb dX10_part_57 (by decide) ?_
      refine lv_istore_n (lv' := [(3, .int (nI 0)), (2, .int (nI 0)), (1, .int (nI (nxC ch len at_))), (0, .ref r)]) hx hb dX10_part_58 rfl hl (by decide) rfl (fun ls hl => ?_)
      refine lv_aload_n hx hb dX10_part_59 rfl (lv_at hl 3 rfl) ?_
      refine lv_dup hx hb dX10_part_60 rfl ?_
      refine va_get (D := G.1) (ci := 9) (v := .int (nI many)) (C := RX10) (T := TX10) (N := 4) hx hb hts in_X10 hown hK hP 0 rfl rfl 1 (by decide) (hts _ q962) (fun _ h9 => h9) rfl dX10_part_61 ?_
      refine lv_iconst (v := nI 1) hx hb dX10_part_64 (by decide) ?_
      refine N_iadd hx hb dX10_part_65 ?_
      refine va_put (D := G.1) (ci := 9) (v := .int (nI (many + 1))) (ty := .int) (C := RX10) (T := TX10) (N := 4) hx hb hts in_X10 tyX10 tyX10_ok nmX10 hown hK hP hD hS 0 rfl rfl 1 (by decide) (hts _ q962) (fun _ h9 => h9) rfl (by decide +kernel) rfl rfl (Nat.le_of_ble_eq_true rfl) dX10_part_66 (fun H locs hP hD hS => ?_)
      have hP : va_P G.1 vwCl [oX r 9 [.ref fo, .int (nI (many + 1)), .int (nI at_), .ref h], aI G fo 240 (upd fd (4 * many) (nI (nxC ch len at_))), oC h ad sn hsh, oX (ad 10) 12 [.ref (ad 28), .int (nI 0), .int (bI ml), .int (nI len)], aB G (ad 28) 60 (nF ch)] _ := hP
      have hD : va_D A [oX r 9 [.ref fo, .int (nI (many + 1)), .int (nI at_), .ref h], aI G fo 240 (upd fd (4 * many) (nI (nxC ch len at_))), oC h ad sn hsh, oX (ad 10) 12 [.ref (ad 28), .int (nI 0), .int (bI ml), .int (nI len)], aB G (ad 28) 60 (nF ch)] := hD
      refine lv_iload_n hx hb dX10_part_69 rfl (lv_at hl 0 rfl) ?_
      have e_3 : (at_) = ((ptO ch len at_).2) := by (rw [hp3])
      rw [show [oX r 9 [.ref fo, .int (nI (many + 1)), .int (nI at_), .ref h], aI G fo 240 (upd fd (4 * many) (nI (nxC ch len at_))), oC h ad sn hsh, oX (ad 10) 12 [.ref (ad 28), .int (nI 0), .int (bI ml), .int (nI len)], aB G (ad 28) 60 (nF ch)] = [oX r 9 [.ref fo, .int (nI (many + 1)), .int (nI ((ptO ch len at_).2)), .ref h], aI G fo 240 (upd fd (4 * many) (nI (nxC ch len at_))), oC h ad sn hsh, oX (ad 10) 12 [.ref (ad 28), .int (nI 0), .int (bI ml), .int (nI len)], aB G (ad 28) 60 (nF ch)] from congrArg (fun z_ => [oX r 9 [.ref fo, .int (nI (many + 1)), .int (nI z_), .ref h], aI G fo 240 (upd fd (4 * many) (nI (nxC ch len at_))), oC h ad sn hsh, oX (ad 10) 12 [.ref (ad 28), .int (nI 0), .int (bI ml), .int (nI len)], aB G (ad 28) 60 (nF ch)]) e_3] at hP hD
      have hP : va_P G.1 vwCl [oX r 9 [.ref fo, .int (nI (many + 1)), .int (nI ((ptO ch len at_).2)), .ref h], aI G fo 240 (upd fd (4 * many) (nI (nxC ch len at_))), oC h ad sn hsh, oX (ad 10) 12 [.ref (ad 28), .int (nI 0), .int (bI ml), .int (nI len)], aB G (ad 28) 60 (nF ch)] _ := hP
      have hD : va_D A [oX r 9 [.ref fo, .int (nI (many + 1)), .int (nI ((ptO ch len at_).2)), .ref h], aI G fo 240 (upd fd (4 * many) (nI (nxC ch len at_))), oC h ad sn hsh, oX (ad 10) 12 [.ref (ad 28), .int (nI 0), .int (bI ml), .int (nI len)], aB G (ad 28) 60 (nF ch)] := hD
      rw [hQQ]
      exact rt_z hx hb hr hlk (by first | exact bI_nar _ | rfl) ((upd fd (4 * many) (nI (nxC ch len at_)))) dX10_part_70 hP hD hS (by first | exact Nat.le_of_ble_eq_true rfl | (simp only [rm_X10_part, rm_X10_next, rm_X10_isSign]; omega) | omega) (by first | exact Nat.le_of_ble_eq_true rfl | (simp only [rm_X10_part, rm_X10_next, rm_X10_isSign]; omega) | omega) ⟨(by first | (rw [hp3]; rfl) | (rw [hp3, c_50]; rfl) | (rw [hp3]; exact congrArg bI c_50) | (rw [hp3]; show _ = bI (rsB _ _ _ _); rw [c_50]; rfl)), by first | exact ⟨fun j hj => by (first | (rw [hrs.1 j (by omega)]; unfold upd; rw [if_neg (by omega)])), fun hf_ => ⟨by (rw [hrs.1 _ (Nat.le_refl _)]; unfold upd; rw [if_pos rfl]), hrs.2 (by rw [hp3] at hf_; exact hf_)⟩⟩ | exact ⟨fun j hj => by (unfold upd; rw [if_neg (by omega)]), fun hf_ => by (rw [hp3] at hf_; cases hf_)⟩⟩
    · skip
      exfalso; omega
  · skip
    obtain ⟨hp1, hp2, hp3⟩ := pt_t c_17
    have hc9 := hch at_ hp1
    have hl : lv_has ls 4 [(2, .int (nI 1)), (1, .int (nI (ch at_))), (0, .ref r)] := by rw [c_17, hp2] at hl; exact hl
    refine lv_iconst (v := nI 1) hx hb dX10_part_20 (by decide) ?_
    refine lv_goto (tgt := 25) hx hb dX10_part_21 (by decide) ?_
    refine N_iadd hx hb dX10_part_25 ?_
    refine va_put (D := G.1) (ci := 9) (v := .int (nI (at_ + 1))) (ty := .int) (C := RX10) (T := TX10) (N := 4) hx hb hts in_X10 tyX10 tyX10_ok nmX10 hown hK hP hD hS 0 rfl rfl 2 (by decide) (hts _ q964) (fun _ h9 => h9) rfl (by decide +kernel) rfl rfl (Nat.le_of_ble_eq_true rfl) dX10_part_26 (fun H locs hP hD hS => ?_)
    have hP : va_P G.1 vwCl [oX r 9 [.ref fo, .int (nI many), .int (nI (at_ + 1)), .ref h], aI G fo 240 fd, oC h ad sn hsh, oX (ad 10) 12 [.ref (ad 28), .int (nI 0), .int (bI ml), .int (nI len)], aB G (ad 28) 60 (nF ch)] _ := hP
    have hD : va_D A [oX r 9 [.ref fo, .int (nI many), .int (nI (at_ + 1)), .ref h], aI G fo 240 fd, oC h ad sn hsh, oX (ad 10) 12 [.ref (ad 28), .int (nI 0), .int (bI ml), .int (nI len)], aB G (ad 28) 60 (nF ch)] := hD
    refine lv_aload_n hx hb dX10_part_29 rfl (lv_at hl 2 rfl) ?_
    refine va_get (D := G.1) (ci := 9) (v := .ref fo) (C := RX10) (T := TX10) (N := 4) hx hb hts in_X10 hown hK hP 0 rfl rfl 0 (by decide) (hts _ q960) (fun _ h9 => h9) rfl dX10_part_30 ?_
    refine lv_iconst (v := nI 4) hx hb dX10_part_33 (by decide) ?_
    refine lv_aload_n hx hb dX10_part_34 rfl (lv_at hl 2 rfl) ?_
    refine va_get (D := G.1) (ci := 9) (v := .int (nI many)) (C := RX10) (T := TX10) (N := 4) hx hb hts in_X10 hown hK hP 0 rfl rfl 1 (by decide) (hts _ q962) (fun _ h9 => h9) rfl dX10_part_35 ?_
    refine N_imul hx hb dX10_part_38 ?_
    refine lv_iload_n hx hb dX10_part_39 rfl (lv_at hl 1 rfl) ?_
    refine N_iast (ws' := [oX r 9 [.ref fo, .int (nI many), .int (nI (at_ + 1)), .ref h], aI G fo 240 (upd fd (4 * many) (nI (ch at_))), oC h ad sn hsh, oX (ad 10) 12 [.ref (ad 28), .int (nI 0), .int (bI ml), .int (nI len)], aB G (ad 28) 60 (nF ch)]) hx hb dX10_part_40 hK hP hD hS 1 0 rfl rfl (by omega) (by omega) rfl (fun H locs hP hD hS => ?_)
    refine lv_iload_n hx hb dX10_part_41 rfl (lv_at hl 0 rfl) ?_
    refine N_if_eq (tgt := 57) hx hb dX10_part_42 (by decide) (by omega) (fun c_42 => ?_) (fun c_42 => ?_)
    · skip
      exfalso; omega
    · skip
      refine lv_aload_n hx hb dX10_part_45 rfl (lv_at hl 2 rfl) ?_
      refine lv_iload_n hx hb dX10_part_46 rfl (lv_at hl 1 rfl) ?_
      refine fin_i (ws' := (fun (u_4 : Nat → Int32) => [oX r 9 [.ref fo, .int (nI many), .int (nI (rsP ch len (ch at_) (at_ + 1))), .ref h], aI G fo 240 u_4, oC h ad sn hsh, oX (ad 10) 12 [.ref (ad 28), .int (nI 0), .int (bI ml), .int (nI len)], aB G (ad 28) 60 (nF ch)])) hA hS hP hD [0, 1, 2, 3, 4] rfl [(true, 0), (true, 1), (true, 2), (true, 3), (true, 4)] (fun _ => rfl) (by decide) (run_V (As := [.int (nI (ch at_))]) (rest := []) (n9 := 1) hx hb hml hown hts hE hAb hl.1 hS hP hD [0, 1, 2, 3, 4] rfl (by decide) (t_X10_rest l G b0 _ r fo many (at_ + 1) h len ad sn hsh ml ch (upd fd (4 * many) (nI (ch at_))) (ch at_) (by omega) (by omega) (by exact hch) (by omega) (by omega)) (lw_V q1006 q1008 qs12 q142 q1009) 0 rfl rfl ⟨rfl, by decide, by decide, by decide +kernel⟩ ⟨Nat.le_of_ble_eq_true rfl, Nat.le_of_ble_eq_true rfl⟩ ⟨by first | exact Nat.le_of_ble_eq_true rfl | (simp only [rm_X10_part, rm_X10_rest, rm_X10_next, rm_X10_isSign]; omega), by first | exact Nat.le_of_ble_eq_true rfl | (simp only [rm_X10_part, rm_X10_rest, rm_X10_next, rm_X10_isSign]; omega)⟩ dX10_part_47 (Nat.le_of_ble_eq_true rfl) rfl rfl) (fun r_4 u_4 H locs h_4 hP hD hS => ?_)
      have hP : va_P G.1 vwCl [oX r 9 [.ref fo, .int (nI many), .int (nI (rsP ch len (ch at_) (at_ + 1))), .ref h], aI G fo 240 u_4, oC h ad sn hsh, oX (ad 10) 12 [.ref (ad 28), .int (nI 0), .int (bI ml), .int (nI len)], aB G (ad 28) 60 (nF ch)] _ := hP
      have hD : va_D A [oX r 9 [.ref fo, .int (nI many), .int (nI (rsP ch len (ch at_) (at_ + 1))), .ref h], aI G fo 240 u_4, oC h ad sn hsh, oX (ad 10) 12 [.ref (ad 28), .int (nI 0), .int (bI ml), .int (nI len)], aB G (ad 28) 60 (nF ch)] := hD
      obtain ⟨h_4, f_4⟩ := h_4
      have h_4 : r_4 = (bI (rsB ch len (ch at_) (at_ + 1))) := h_4
      try rw [h_4] at f_4
      have f_4 : fdS many (upd fd (4 * many) (nI (ch at_))) u_4 ∧ (rsB ch len (ch at_) (at_ + 1) = true → fdD ch len (ch at_) (at_ + 1) many u_4) := f_4
      rw [h_4]
      have hrs := f_4
      refine B_if_eq (tgt := 57) hx hb dX10_part_50 (by decide) (fun c_50 => ?_) (fun c_50 => ?_)
      · skip
        refine lv_iconst (v := nI 0) hx hb dX10_part_57 (by decide) ?_
        refine lv_istore_n (lv' := [(3, .int (nI 0)), (2, .int (nI 1)), (1, .int (nI (ch at_))), (0, .ref r)]) hx hb dX10_part_58 rfl hl (by decide) rfl (fun ls hl => ?_)
        refine lv_aload_n hx hb dX10_part_59 rfl (lv_at hl 3 rfl) ?_
        refine lv_dup hx hb dX10_part_60 rfl ?_
        refine va_get (D := G.1) (ci := 9) (v := .int (nI many)) (C := RX10) (T := TX10) (N := 4) hx hb hts in_X10 hown hK hP 0 rfl rfl 1 (by decide) (hts _ q962) (fun _ h9 => h9) rfl dX10_part_61 ?_
        refine lv_iconst (v := nI 1) hx hb dX10_part_64 (by decide) ?_
        refine N_iadd hx hb dX10_part_65 ?_
        refine va_put (D := G.1) (ci := 9) (v := .int (nI (many + 1))) (ty := .int) (C := RX10) (T := TX10) (N := 4) hx hb hts in_X10 tyX10 tyX10_ok nmX10 hown hK hP hD hS 0 rfl rfl 1 (by decide) (hts _ q962) (fun _ h9 => h9) rfl (by decide +kernel) rfl rfl (Nat.le_of_ble_eq_true rfl) dX10_part_66 (fun H locs hP hD hS => ?_)
        have hP : va_P G.1 vwCl [oX r 9 [.ref fo, .int (nI (many + 1)), .int (nI (rsP ch len (ch at_) (at_ + 1))), .ref h], aI G fo 240 u_4, oC h ad sn hsh, oX (ad 10) 12 [.ref (ad 28), .int (nI 0), .int (bI ml), .int (nI len)], aB G (ad 28) 60 (nF ch)] _ := hP
        have hD : va_D A [oX r 9 [.ref fo, .int (nI (many + 1)), .int (nI (rsP ch len (ch at_) (at_ + 1))), .ref h], aI G fo 240 u_4, oC h ad sn hsh, oX (ad 10) 12 [.ref (ad 28), .int (nI 0), .int (bI ml), .int (nI len)], aB G (ad 28) 60 (nF ch)] := hD
        refine lv_iload_n hx hb dX10_part_69 rfl (lv_at hl 0 rfl) ?_
        have e_5 : (rsP ch len (ch at_) (at_ + 1)) = ((ptO ch len at_).2) := by (rw [hp3])
        rw [show [oX r 9 [.ref fo, .int (nI (many + 1)), .int (nI (rsP ch len (ch at_) (at_ + 1))), .ref h], aI G fo 240 u_4, oC h ad sn hsh, oX (ad 10) 12 [.ref (ad 28), .int (nI 0), .int (bI ml), .int (nI len)], aB G (ad 28) 60 (nF ch)] = [oX r 9 [.ref fo, .int (nI (many + 1)), .int (nI ((ptO ch len at_).2)), .ref h], aI G fo 240 u_4, oC h ad sn hsh, oX (ad 10) 12 [.ref (ad 28), .int (nI 0), .int (bI ml), .int (nI len)], aB G (ad 28) 60 (nF ch)] from congrArg (fun z_ => [oX r 9 [.ref fo, .int (nI (many + 1)), .int (nI z_), .ref h], aI G fo 240 u_4, oC h ad sn hsh, oX (ad 10) 12 [.ref (ad 28), .int (nI 0), .int (bI ml), .int (nI len)], aB G (ad 28) 60 (nF ch)]) e_5] at hP hD
        have hP : va_P G.1 vwCl [oX r 9 [.ref fo, .int (nI (many + 1)), .int (nI ((ptO ch len at_).2)), .ref h], aI G fo 240 u_4, oC h ad sn hsh, oX (ad 10) 12 [.ref (ad 28), .int (nI 0), .int (bI ml), .int (nI len)], aB G (ad 28) 60 (nF ch)] _ := hP
        have hD : va_D A [oX r 9 [.ref fo, .int (nI (many + 1)), .int (nI ((ptO ch len at_).2)), .ref h], aI G fo 240 u_4, oC h ad sn hsh, oX (ad 10) 12 [.ref (ad 28), .int (nI 0), .int (bI ml), .int (nI len)], aB G (ad 28) 60 (nF ch)] := hD
        rw [hQQ]
        exact rt_z hx hb hr hlk (by first | exact bI_nar _ | rfl) u_4 dX10_part_70 hP hD hS (by first | exact Nat.le_of_ble_eq_true rfl | (simp only [rm_X10_part, rm_X10_next, rm_X10_isSign, rm_X10_rest]; omega) | omega) (by first | exact Nat.le_of_ble_eq_true rfl | (simp only [rm_X10_part, rm_X10_next, rm_X10_isSign, rm_X10_rest]; omega) | omega) ⟨(by first | (rw [hp3]; rfl) | (rw [hp3, c_50]; rfl) | (rw [hp3]; exact congrArg bI c_50) | (rw [hp3]; show _ = bI (rsB _ _ _ _); rw [c_50]; rfl)), by first | exact ⟨fun j hj => by (first | (rw [hrs.1 j (by omega)]; unfold upd; rw [if_neg (by omega)])), fun hf_ => ⟨by (rw [hrs.1 _ (Nat.le_refl _)]; unfold upd; rw [if_pos rfl]), hrs.2 (by rw [hp3] at hf_; exact hf_)⟩⟩ | exact ⟨fun j hj => by (unfold upd; rw [if_neg (by omega)]), fun hf_ => by (rw [hp3] at hf_; cases hf_)⟩⟩
      · skip
        refine lv_iconst (v := nI 1) hx hb dX10_part_53 (by decide) ?_
        refine lv_goto (tgt := 58) hx hb dX10_part_54 (by decide) ?_
        refine lv_istore_n (lv' := [(3, .int (nI 1)), (2, .int (nI 1)), (1, .int (nI (ch at_))), (0, .ref r)]) hx hb dX10_part_58 rfl hl (by decide) rfl (fun ls hl => ?_)
        refine lv_aload_n hx hb dX10_part_59 rfl (lv_at hl 3 rfl) ?_
        refine lv_dup hx hb dX10_part_60 rfl ?_
        refine va_get (D := G.1) (ci := 9) (v := .int (nI many)) (C := RX10) (T := TX10) (N := 4) hx hb hts in_X10 hown hK hP 0 rfl rfl 1 (by decide) (hts _ q962) (fun _ h9 => h9) rfl dX10_part_61 ?_
        refine lv_iconst (v := nI 1) hx hb dX10_part_64 (by decide) ?_
        refine N_iadd hx hb dX10_part_65 ?_
        refine va_put (D := G.1) (ci := 9) (v := .int (nI (many + 1))) (ty := .int) (C := RX10) (T := TX10) (N := 4) hx hb hts in_X10 tyX10 tyX10_ok nmX10 hown hK hP hD hS 0 rfl rfl 1 (by decide) (hts _ q962) (fun _ h9 => h9) rfl (by decide +kernel) rfl rfl (Nat.le_of_ble_eq_true rfl) dX10_part_66 (fun H locs hP hD hS => ?_)
        have hP : va_P G.1 vwCl [oX r 9 [.ref fo, .int (nI (many + 1)), .int (nI (rsP ch len (ch at_) (at_ + 1))), .ref h], aI G fo 240 u_4, oC h ad sn hsh, oX (ad 10) 12 [.ref (ad 28), .int (nI 0), .int (bI ml), .int (nI len)], aB G (ad 28) 60 (nF ch)] _ := hP
        have hD : va_D A [oX r 9 [.ref fo, .int (nI (many + 1)), .int (nI (rsP ch len (ch at_) (at_ + 1))), .ref h], aI G fo 240 u_4, oC h ad sn hsh, oX (ad 10) 12 [.ref (ad 28), .int (nI 0), .int (bI ml), .int (nI len)], aB G (ad 28) 60 (nF ch)] := hD
        refine lv_iload_n hx hb dX10_part_69 rfl (lv_at hl 0 rfl) ?_
        have e_6 : (rsP ch len (ch at_) (at_ + 1)) = ((ptO ch len at_).2) := by (rw [hp3])
        rw [show [oX r 9 [.ref fo, .int (nI (many + 1)), .int (nI (rsP ch len (ch at_) (at_ + 1))), .ref h], aI G fo 240 u_4, oC h ad sn hsh, oX (ad 10) 12 [.ref (ad 28), .int (nI 0), .int (bI ml), .int (nI len)], aB G (ad 28) 60 (nF ch)] = [oX r 9 [.ref fo, .int (nI (many + 1)), .int (nI ((ptO ch len at_).2)), .ref h], aI G fo 240 u_4, oC h ad sn hsh, oX (ad 10) 12 [.ref (ad 28), .int (nI 0), .int (bI ml), .int (nI len)], aB G (ad 28) 60 (nF ch)] from congrArg (fun z_ => [oX r 9 [.ref fo, .int (nI (many + 1)), .int (nI z_), .ref h], aI G fo 240 u_4, oC h ad sn hsh, oX (ad 10) 12 [.ref (ad 28), .int (nI 0), .int (bI ml), .int (nI len)], aB G (ad 28) 60 (nF ch)]) e_6] at hP hD
        have hP : va_P G.1 vwCl [oX r 9 [.ref fo, .int (nI (many + 1)), .int (nI ((ptO ch len at_).2)), .ref h], aI G fo 240 u_4, oC h ad sn hsh, oX (ad 10) 12 [.ref (ad 28), .int (nI 0), .int (bI ml), .int (nI len)], aB G (ad 28) 60 (nF ch)] _ := hP
        have hD : va_D A [oX r 9 [.ref fo, .int (nI (many + 1)), .int (nI ((ptO ch len at_).2)), .ref h], aI G fo 240 u_4, oC h ad sn hsh, oX (ad 10) 12 [.ref (ad 28), .int (nI 0), .int (bI ml), .int (nI len)], aB G (ad 28) 60 (nF ch)] := hD
        rw [hQQ]
        exact rt_z hx hb hr hlk (by first | exact bI_nar _ | rfl) u_4 dX10_part_70 hP hD hS (by first | exact Nat.le_of_ble_eq_true rfl | (simp only [rm_X10_part, rm_X10_next, rm_X10_isSign, rm_X10_rest]; omega) | omega) (by first | exact Nat.le_of_ble_eq_true rfl | (simp only [rm_X10_part, rm_X10_next, rm_X10_isSign, rm_X10_rest]; omega) | omega) ⟨(by first | (rw [hp3]; rfl) | (rw [hp3, c_50]; rfl) | (rw [hp3]; exact congrArg bI c_50) | (rw [hp3]; show _ = bI (rsB _ _ _ _); rw [c_50]; rfl)), by first | exact ⟨fun j hj => by (first | (rw [hrs.1 j (by omega)]; unfold upd; rw [if_neg (by omega)])), fun hf_ => ⟨by (rw [hrs.1 _ (Nat.le_refl _)]; unfold upd; rw [if_pos rfl]), hrs.2 (by rw [hp3] at hf_; exact hf_)⟩⟩ | exact ⟨fun j hj => by (unfold upd; rw [if_neg (by omega)]), fun hf_ => by (rw [hp3] at hf_; cases hf_)⟩⟩
