/-! ===== the reference: what a part does ===== -/
def dfB (L : Nat) (st : Nat → Int32) (x : Nat) (v : Int32) : Nat → Int32 := joinP L (upd (splitP st L) x v)
def doR (c a b : Nat) (v : Int32) (L : Nat) (st : Nat → Int32) : Nat × Nat × (Nat → Int32) :=
  if c = 100 then (if allB (shsB (joinP L (upd (splitP st L) (8 * a + b) v))) 64 = true then (0, L, fillTo 64 (joinP L (upd (splitP st L) (8 * a + b) v)) st) else (1, L, st))
  else if c = 108 then (0, a, upd st 64 (nI a))
  else if c = 109 then (0, L, fillTo 64 (turnF true st) st)
  else if c = 112 then (0, L, upd st (8 * a + b) v)
  else if c = 114 then (0, L, fillTo 64 (turnF false st) st)
  else if c = 116 then (if l_sum (crmN L (nI a) (splitP st L)) 64 = 0 then (2, L, st) else (0, L, fillTo 64 (clmF (joinP L (drpA L (nI a) (splitP st L)))) st))
  else (0, L, fillTo 64 (invF st) st)
def ptA (ch : Nat → Nat) (len i : Nat) : Nat := if ch i = 108 then (rdR ch len 1 3 (i + 1)).2.1 else if ch i = 116 then (rdR ch len 0 255 (i + 1)).2.1 else (celR ch len (i + 1)).2.2.1
def doP (ch : Nat → Nat) (len i L : Nat) (st : Nat → Int32) : Nat × Nat × (Nat → Int32) := doR (ch i) (ptA ch len i) (celR ch len (i + 1)).2.2.2 (asgV ch len (decide (ch i = 100)) (i + 1)) L st
theorem celR_b {ch : Nat → Nat} {len i : Nat} (h : i ≤ len) : (celR ch len i).2.2.1 ≤ 7 ∧ (celR ch len i).2.2.2 ≤ 7 := by
  have h1 := rdR_at (ch := ch) (lo := 0) (hi := 7) h
  have h2 := sgA_le (ch := ch) (c := 46) h1.1
  have h3 := rdR_at (ch := ch) (lo := 0) (hi := 7) h2.1
  unfold celR
  repeat' split
  all_goals (dsimp only; omega)
theorem ptO_rd {ch : Nat → Nat} {len i : Nat} (h : (ptO ch len i).1 = true) (hc : ch i = 108) : (rdR ch len 1 3 (i + 1)).1 = true := by
  have h0 := ptO_lt h
  unfold ptO at h
  rw [if_neg h0, if_neg (by omega), if_neg (by omega), if_pos hc] at h
  exact h
theorem ptA_l {ch : Nat → Nat} {len i : Nat} (hi : i < len) (h : (ptO ch len i).1 = true) (hc : ch i = 108) : 1 ≤ ptA ch len i ∧ ptA ch len i ≤ 3 := by
  unfold ptA
  rw [if_pos hc]
  exact ⟨rdR_lo (Nat.le_refl _) (ptO_rd h hc), (rdR_at (by omega)).2.1⟩
theorem pd_b {ch : Nat → Nat} {len i k : Nat} {le fi se : Nat → Nat} {ti : Nat → Int32} (hi : i < len) (hd : ptD ch len i k le fi se ti) : (le k = 100 ∨ le k = 112 → fi k ≤ 7 ∧ se k ≤ 7) ∧ (le k = 108 → 1 ≤ fi k ∧ fi k ≤ 3) := by
  obtain ⟨h1, h2, h3, h4, h5⟩ := hd
  rw [h2]
  refine ⟨fun c => ?_, fun c => ?_⟩
  · obtain ⟨e1, e2, _⟩ := h3 c
    rw [e1, e2]
    exact celR_b (by omega)
  · have := ptA_l hi h1 c
    unfold ptA at this
    rw [if_pos c] at this
    rw [h4 c]
    exact this
theorem pd_do {ch : Nat → Nat} {len i k : Nat} {le fi se : Nat → Nat} {ti : Nat → Int32} {L : Nat} {st : Nat → Int32} (hd : ptD ch len i k le fi se ti) : doR (le k) (fi k) (se k) (ti k) L st = doP ch len i L st := by
  obtain ⟨h1, h2, h3, h4, h5⟩ := hd
  rw [h2]
  unfold doP doR
  by_cases c1 : ch i = 100
  · obtain ⟨e1, e2, e3⟩ := h3 (Or.inl c1)
    have e4 : ptA ch len i = (celR ch len (i + 1)).2.2.1 := by
      unfold ptA
      rw [if_neg (by omega), if_neg (by omega)]
    rw [if_pos c1, if_pos c1, e1, e2, e3, e4]
  rw [if_neg c1, if_neg c1]
  by_cases c2 : ch i = 108
  · have e4 : ptA ch len i = fi k := by
      unfold ptA
      rw [if_pos c2, h4 c2]
    rw [if_pos c2, if_pos c2, e4]
  rw [if_neg c2, if_neg c2]
  by_cases c3 : ch i = 109
  · rw [if_pos c3, if_pos c3]
  rw [if_neg c3, if_neg c3]
  by_cases c4 : ch i = 112
  · obtain ⟨e1, e2, e3⟩ := h3 (Or.inr c4)
    have e4 : ptA ch len i = (celR ch len (i + 1)).2.2.1 := by
      unfold ptA
      rw [if_neg (by omega), if_neg (by omega)]
    rw [if_pos c4, if_pos c4, e1, e2, e3, e4]
  rw [if_neg c4, if_neg c4]
  by_cases c5 : ch i = 114
  · rw [if_pos c5, if_pos c5]
  rw [if_neg c5, if_neg c5]
  by_cases c6 : ch i = 116
  · have e4 : ptA ch len i = fi k := by
      unfold ptA
      rw [if_neg c2, if_pos c6, h5 c6]
    rw [if_pos c6, if_pos c6, e4]
  rw [if_neg c6, if_neg c6]
theorem fill_out {n : Nat} {f g : Nat → Int32} {j : Nat} (h : n ≤ j) : fillTo n f g j = g j := by
  unfold fillTo
  rw [if_neg (by omega)]
theorem doR_lv {c a b : Nat} {v : Int32} {L : Nat} {st : Nat → Int32} (h : st 64 = nI L) (hL1 : 1 ≤ L) (hL : L ≤ 3) (hab : c = 100 ∨ c = 112 → a ≤ 7 ∧ b ≤ 7) (hal : c = 108 → 1 ≤ a ∧ a ≤ 3) : (doR c a b v L st).2.2 64 = nI (doR c a b v L st).2.1 ∧ 1 ≤ (doR c a b v L st).2.1 ∧ (doR c a b v L st).2.1 ≤ 3 := by
  have hf : ∀ f : Nat → Int32, fillTo 64 f st 64 = nI L := fun f => (fill_out (Nat.le_refl _)).trans h
  unfold doR
  by_cases c1 : c = 100
  · rw [if_pos c1]
    split
    · exact ⟨(by dsimp only; exact hf _), hL1, hL⟩
    · exact ⟨h, hL1, hL⟩
  rw [if_neg c1]
  by_cases c2 : c = 108
  · rw [if_pos c2]
    exact ⟨by simp [upd], (hal c2).1, (hal c2).2⟩
  rw [if_neg c2]
  by_cases c3 : c = 109
  · rw [if_pos c3]; exact ⟨(by dsimp only; exact hf _), hL1, hL⟩
  rw [if_neg c3]
  by_cases c4 : c = 112
  · rw [if_pos c4]
    have := hab (Or.inr c4)
    refine ⟨?_, hL1, hL⟩
    show upd st (8 * a + b) v 64 = nI L
    unfold upd
    rw [if_neg (by omega)]
    exact h
  rw [if_neg c4]
  by_cases c5 : c = 114
  · rw [if_pos c5]; exact ⟨(by dsimp only; exact hf _), hL1, hL⟩
  rw [if_neg c5]
  by_cases c6 : c = 116
  · rw [if_pos c6]
    split
    · exact ⟨h, hL1, hL⟩
    · exact ⟨(by dsimp only; exact hf _), hL1, hL⟩
  rw [if_neg c6]
  exact ⟨(by dsimp only; exact hf _), hL1, hL⟩
theorem doR_w {c a b : Nat} {v : Int32} {L : Nat} {st : Nat → Int32} : (doR c a b v L st).1 ≤ 2 := by
  unfold doR
  repeat' split
  all_goals (dsimp only; omega)
/-- parts from k on: how many were done, why it stopped, the levels and the sheet -/
def wkP (ch : Nat → Nat) (len : Nat) : Nat → Nat → Nat → (Nat → Int32) → Nat × Nat × Nat × (Nat → Int32)
  | 0, k, L, st => (k, 0, L, st)
  | f + 1, k, L, st => if (doP ch len (posK ch len k) L st).1 = 0 then wkP ch len f (k + 1) (doP ch len (posK ch len k) L st).2.1 (doP ch len (posK ch len k) L st).2.2 else (k, (doP ch len (posK ch len k) L st).1, (doP ch len (posK ch len k) L st).2.1, (doP ch len (posK ch len k) L st).2.2)
def wkR (ch : Nat → Nat) (len L : Nat) (st : Nat → Int32) : Nat × Nat × Nat × (Nat → Int32) := wkP ch len (prR ch len).2.2 0 L st
def wkI (ch : Nat → Nat) (len L : Nat) (st : Nat → Int32) (M k wy L' : Nat) (st' : Nat → Int32) : Prop := (wy = 0 ∧ wkP ch len (M - k) k L' st' = wkR ch len L st) ∨ (¬ wy = 0 ∧ (k, wy, L', st') = wkR ch len L st)
theorem wk_n {ch : Nat → Nat} {len L : Nat} {st : Nat → Int32} {M k L' : Nat} {st' : Nat → Int32} {r : Nat × Nat × (Nat → Int32)} (h : wkP ch len (M - k) k L' st' = wkR ch len L st) (hk : k < M) (hr : r = doP ch len (posK ch len k) L' st') : wkI ch len L st M (k + if r.1 = 0 then 1 else 0) r.1 r.2.1 r.2.2 := by
  have e : M - k = (M - (k + 1)) + 1 := by omega
  rw [e] at h
  unfold wkP at h
  rw [hr]
  by_cases c : (doP ch len (posK ch len k) L' st').1 = 0
  · rw [if_pos c] at h ⊢
    exact Or.inl ⟨c, h⟩
  · rw [if_neg c] at h ⊢
    exact Or.inr ⟨c, h⟩
theorem wk_e {ch : Nat → Nat} {len L : Nat} {st : Nat → Int32} {M k wy L' : Nat} {st' : Nat → Int32} (h : wkI ch len L st M k wy L' st') (hk : M ≤ k ∨ ¬ wy = 0) : (k, wy, L', st') = wkR ch len L st := by
  rcases h with ⟨a, b⟩ | ⟨_, b⟩
  · rcases hk with c | c
    · have : M - k = 0 := by omega
      rw [this] at b
      rw [a]
      exact b
    · exact absurd a c
  · exact b
/-- the sheet after works -/
def wkS (w : Nat × Nat × Nat × (Nat → Int32)) : Nat → Int32 := upd (upd (upd w.2.2.2 65 (nI (if 0 < w.2.1 then 1 else 0))) 66 (nI (if 0 < w.2.1 then w.1 else 0))) 67 (nI w.2.1)
def rm_X9_does : Room := ({ frames := 4, cells := 0, slots := 0, locals := 99 } : Room)
set_option maxHeartbeats 400000 in
set_option maxRecDepth 100000 in
theorem t_X9_does (l : Launch) (G : GG) (b0 sz : Nat) (h : Nat) (ad : Nat → Nat) (thr sts : Nat) (hs : Bool) (len at_ num many : Nat) (le fi se : Nat → Nat) (st pa bk li ti : Nat → Int32) (k L : Nat) (hk0 : k ≤ 30) (hlc : le k < 1000) (hab : le k = 100 ∨ le k = 112 → fi k ≤ 7 ∧ se k ≤ 7) (hal : le k = 108 → 1 ≤ fi k ∧ fi k ≤ 3) (hL1 : 1 ≤ L) (hL : L ≤ 3) (hst : st 64 = nI L) : CT l yX9_does cX9_does 4 (some FieldType.int) (rm_X9_does) G b0 [.ref h, .int (nI k)] [oM h ad thr sts hs len at_ num many, aI G (ad 1) 68 st, aI G (ad 5) 64 pa, aI G (ad 6) 64 bk, aI G (ad 7) 8 li, aI G (ad 11) 31 (nF le), aI G (ad 12) 31 (nF fi), aI G (ad 13) 31 (nF se), aI G (ad 14) 31 ti] sz (Ri G (fun (r_ : Int32) (u : (Nat → Int32) × (Nat → Int32) × (Nat → Int32)) => r_ = nI ((doR (le k) (fi k) (se k) (ti k) L st).1)) (fun (u : (Nat → Int32) × (Nat → Int32) × (Nat → Int32)) => [oM h ad thr sts hs len at_ num many, aI G (ad 1) 68 ((doR (le k) (fi k) (se k) (ti k) L st).2.2), aI G (ad 5) 64 u.1, aI G (ad 6) 64 u.2.1, aI G (ad 7) 8 u.2.2, aI G (ad 11) 31 (nF le), aI G (ad 12) 31 (nF fi), aI G (ad 13) 31 (nF se), aI G (ad 14) 31 ti])) := by
  refine CT.go (by decide) (Nat.le_of_ble_eq_true rfl) (fun p e s m below meth c A ls AR QQ hx hb hr hlk hml hown hnm hts hE hA hAb hsz hP hD hS hl hQQ => ?_)
  have hK := hE.1
  have hown : s.vm.findClass RX9 = some m.cls := hown
  have hl : lv_has ls 4 [(0, .ref h), (1, .int (nI k))] := hl
  clear hsz
  refine lv_bipush (v := nI 8) hx hb dX9_does_0 (by decide) ?_
  refine lv_aload_n hx hb dX9_does_2 rfl (lv_at hl 0 rfl) ?_
  refine va_get (D := G.1) (ci := 8) (v := .ref (ad 12)) (C := RX9) (T := TX9) (N := 21) hx hb hts in_X9 hown hK hP 0 rfl rfl 18 (by decide) (hts _ q1685) (fun _ h9 => h9) rfl dX9_does_3 ?_
  refine lv_iload_n hx hb dX9_does_6 rfl (lv_at hl 1 rfl) ?_
  refine N_iald hx hb dX9_does_7 hK hP 6 0 rfl rfl (by omega) (by omega) ?_
  refine top_i (y := nI (fi k)) rfl ?_
  refine N_imul hx hb dX9_does_8 ?_
  refine lv_aload_n hx hb dX9_does_9 rfl (lv_at hl 0 rfl) ?_
  refine va_get (D := G.1) (ci := 8) (v := .ref (ad 13)) (C := RX9) (T := TX9) (N := 21) hx hb hts in_X9 hown hK hP 0 rfl rfl 19 (by decide) (hts _ q1686) (fun _ h9 => h9) rfl dX9_does_10 ?_
  refine lv_iload_n hx hb dX9_does_13 rfl (lv_at hl 1 rfl) ?_
  refine N_iald hx hb dX9_does_14 hK hP 7 0 rfl rfl (by omega) (by omega) ?_
  refine top_i (y := nI (se k)) rfl ?_
  refine N_iadd hx hb dX9_does_15 ?_
  refine lv_istore_n (lv' := [(2, .int (nI ((8 * (fi k)) + (se k)))), (0, .ref h), (1, .int (nI k))]) hx hb dX9_does_16 rfl hl (by decide) rfl (fun ls hl => ?_)
  refine lv_iconst (v := nI 0) hx hb dX9_does_17 (by decide) ?_
  refine lv_istore_n (lv' := [(3, .int (nI 0)), (2, .int (nI ((8 * (fi k)) + (se k)))), (0, .ref h), (1, .int (nI k))]) hx hb dX9_does_18 rfl hl (by decide) rfl (fun ls hl => ?_)
  refine lv_aload_n hx hb dX9_does_19 rfl (lv_at hl 2 rfl) ?_
  refine va_get (D := G.1) (ci := 8) (v := .ref (ad 11)) (C := RX9) (T := TX9) (N := 21) hx hb hts in_X9 hown hK hP 0 rfl rfl 17 (by decide) (hts _ q1684) (fun _ h9 => h9) rfl dX9_does_20 ?_
  refine lv_iload_n hx hb dX9_does_23 rfl (lv_at hl 3 rfl) ?_
  refine N_iald hx hb dX9_does_24 hK hP 5 0 rfl rfl (by omega) (by omega) ?_
  refine top_i (y := nI (le k)) rfl ?_
  by_cases c_25_100 : (le k) = 100
  · rw [show nI (le k) = nI 100 by rw [c_25_100]]
    refine lv_tableIn (tgt := 122) hx hb dX9_does_25 (by decide) (by decide) (by rfl) (by decide) ?_
    have hb8 := hab (Or.inl (by assumption))
    refine lv_aload_n hx hb dX9_does_122 rfl (lv_at hl 2 rfl) ?_
    refine lv_iload_n hx hb dX9_does_123 rfl (lv_at hl 1 rfl) ?_
    refine lv_aload_n hx hb dX9_does_124 rfl (lv_at hl 2 rfl) ?_
    refine va_get (D := G.1) (ci := 8) (v := .ref (ad 14)) (C := RX9) (T := TX9) (N := 21) hx hb hts in_X9 hown hK hP 0 rfl rfl 20 (by decide) (hts _ q1687) (fun _ h9 => h9) rfl dX9_does_125 ?_
    refine lv_iload_n hx hb dX9_does_128 rfl (lv_at hl 3 rfl) ?_
    refine N_iald hx hb dX9_does_129 hK hP 8 0 rfl rfl (by omega) (by omega) ?_
    refine fin_i (ws' := (fun (u_1 : Nat → Int32) => [oM h ad thr sts hs len at_ num many, aI G (ad 1) 68 st, aI G (ad 5) 64 (upd (splitP st L) ((8 * (fi k)) + (se k)) (ti k)), aI G (ad 6) 64 (joinP L (upd (splitP st L) ((8 * (fi k)) + (se k)) (ti k))), aI G (ad 7) 8 u_1, aI G (ad 11) 31 (nF le), aI G (ad 12) 31 (nF fi), aI G (ad 13) 31 (nF se), aI G (ad 14) 31 ti])) hA hS hP hD [0, 1, 2, 3, 4] rfl [(true, 0), (true, 1), (true, 2), (true, 3), (true, 4), (false, 5), (false, 6), (false, 7), (false, 8)] (fun _ => rfl) (by decide) (run_V (As := [.int (nI ((8 * (fi k)) + (se k))), .int (ti k)]) (rest := []) (n9 := 2) hx hb hml hown hts hE hAb hl.1 hS hP hD [0, 1, 2, 3, 4] rfl (by decide) (t_X9_canPart l G b0 _ h ad thr sts hs len at_ num many st pa bk li ((8 * (fi k)) + (se k)) L (ti k) (by omega) (by omega) (by omega) (by omega)) (lw_V q1962 q1964 qs87 q129 q1965) 0 rfl rfl ⟨rfl, by decide, by decide, by decide +kernel⟩ ⟨Nat.le_of_ble_eq_true rfl, Nat.le_of_ble_eq_true rfl⟩ ⟨by first | exact Nat.le_of_ble_eq_true rfl | (simp only [rm_X9_does, rm_X9_canPart]; omega), by first | exact Nat.le_of_ble_eq_true rfl | (simp only [rm_X9_does, rm_X9_canPart]; omega)⟩ dX9_does_130 (Nat.le_of_ble_eq_true rfl) rfl rfl) (fun r_1 u_1 H locs h_1 hP hD hS => ?_)
    have hP : va_P G.1 vwCl [oM h ad thr sts hs len at_ num many, aI G (ad 1) 68 st, aI G (ad 5) 64 (upd (splitP st L) ((8 * (fi k)) + (se k)) (ti k)), aI G (ad 6) 64 (joinP L (upd (splitP st L) ((8 * (fi k)) + (se k)) (ti k))), aI G (ad 7) 8 u_1, aI G (ad 11) 31 (nF le), aI G (ad 12) 31 (nF fi), aI G (ad 13) 31 (nF se), aI G (ad 14) 31 ti] _ := hP
    have hD : va_D A [oM h ad thr sts hs len at_ num many, aI G (ad 1) 68 st, aI G (ad 5) 64 (upd (splitP st L) ((8 * (fi k)) + (se k)) (ti k)), aI G (ad 6) 64 (joinP L (upd (splitP st L) ((8 * (fi k)) + (se k)) (ti k))), aI G (ad 7) 8 u_1, aI G (ad 11) 31 (nF le), aI G (ad 12) 31 (nF fi), aI G (ad 13) 31 (nF se), aI G (ad 14) 31 ti] := hD
    have h_1 : r_1 = (bI (allB (shsB (joinP L (upd (splitP st L) ((8 * (fi k)) + (se k)) (ti k)))) 64)) := h_1
    rw [h_1]
    refine B_if_ne (tgt := 138) hx hb dX9_does_133 (by decide) (fun c_133 => ?_) (fun c_133 => ?_)
    · skip
      refine lv_aload_n hx hb dX9_does_138 rfl (lv_at hl 2 rfl) ?_
      refine fin_i (ws' := (fun (_ : Unit) => [oM h ad thr sts hs len at_ num many, aI G (ad 1) 68 (fillTo 64 (joinP L (upd (splitP st L) ((8 * (fi k)) + (se k)) (ti k))) st), aI G (ad 5) 64 (upd (splitP st L) ((8 * (fi k)) + (se k)) (ti k)), aI G (ad 6) 64 (joinP L (upd (splitP st L) ((8 * (fi k)) + (se k)) (ti k))), aI G (ad 7) 8 u_1, aI G (ad 11) 31 (nF le), aI G (ad 12) 31 (nF fi), aI G (ad 13) 31 (nF se), aI G (ad 14) 31 ti])) hA hS hP hD [0, 1, 3] rfl [(true, 0), (true, 1), (false, 2), (true, 2), (false, 4), (false, 5), (false, 6), (false, 7), (false, 8)] (fun _ => rfl) (by decide) (run_V (As := []) (rest := []) (n9 := 0) hx hb hml hown hts hE hAb hl.1 hS hP hD [0, 1, 3] rfl (by decide) (t_X9_takeBack l G b0 _ h ad thr sts hs len at_ num many st (joinP L (upd (splitP st L) ((8 * (fi k)) + (se k)) (ti k))) ) (lw_V q1966 q1968 qs88 q129 q1969) 0 rfl rfl ⟨rfl, by decide, by decide, by decide +kernel⟩ ⟨Nat.le_of_ble_eq_true rfl, Nat.le_of_ble_eq_true rfl⟩ ⟨by first | exact Nat.le_of_ble_eq_true rfl | (simp only [rm_X9_does, rm_X9_takeBack]; omega), by first | exact Nat.le_of_ble_eq_true rfl | (simp only [rm_X9_does, rm_X9_takeBack]; omega)⟩ dX9_does_139 (Nat.le_of_ble_eq_true rfl) rfl rfl) (fun r_2 u_2 H locs h_2 hP hD hS => ?_)
      have hP : va_P G.1 vwCl [oM h ad thr sts hs len at_ num many, aI G (ad 1) 68 (fillTo 64 (joinP L (upd (splitP st L) ((8 * (fi k)) + (se k)) (ti k))) st), aI G (ad 5) 64 (upd (splitP st L) ((8 * (fi k)) + (se k)) (ti k)), aI G (ad 6) 64 (joinP L (upd (splitP st L) ((8 * (fi k)) + (se k)) (ti k))), aI G (ad 7) 8 u_1, aI G (ad 11) 31 (nF le), aI G (ad 12) 31 (nF fi), aI G (ad 13) 31 (nF se), aI G (ad 14) 31 ti] _ := hP
      have hD : va_D A [oM h ad thr sts hs len at_ num many, aI G (ad 1) 68 (fillTo 64 (joinP L (upd (splitP st L) ((8 * (fi k)) + (se k)) (ti k))) st), aI G (ad 5) 64 (upd (splitP st L) ((8 * (fi k)) + (se k)) (ti k)), aI G (ad 6) 64 (joinP L (upd (splitP st L) ((8 * (fi k)) + (se k)) (ti k))), aI G (ad 7) 8 u_1, aI G (ad 11) 31 (nF le), aI G (ad 12) 31 (nF fi), aI G (ad 13) 31 (nF se), aI G (ad 14) 31 ti] := hD
      have h_2 : r_2 = (l_sum (cneI (joinP L (upd (splitP st L) ((8 * (fi k)) + (se k)) (ti k))) st) 64) := h_2
      rw [h_2]
      refine lv_istore_n (lv' := [(3, .int (l_sum (cneI (joinP L (upd (splitP st L) ((8 * (fi k)) + (se k)) (ti k))) st) 64)), (2, .int (nI ((8 * (fi k)) + (se k)))), (0, .ref h), (1, .int (nI k))]) hx hb dX9_does_142 rfl hl (by decide) rfl (fun ls hl => ?_)
      refine lv_iconst (v := nI 0) hx hb dX9_does_143 (by decide) ?_
      have e_3 : (fillTo 64 (joinP L (upd (splitP st L) ((8 * (fi k)) + (se k)) (ti k))) st) = ((doR (le k) (fi k) (se k) (ti k) L st).2.2) := by first | rfl | (unfold doR; skip; (try rw [if_pos c_25_100]); (try rw [if_pos c_133]); (try rw [c_133]); first | done | rfl)
      have hP : va_P G.1 vwCl [oM h ad thr sts hs len at_ num many, aI G (ad 1) 68 ((doR (le k) (fi k) (se k) (ti k) L st).2.2), aI G (ad 5) 64 (upd (splitP st L) ((8 * (fi k)) + (se k)) (ti k)), aI G (ad 6) 64 (joinP L (upd (splitP st L) ((8 * (fi k)) + (se k)) (ti k))), aI G (ad 7) 8 u_1, aI G (ad 11) 31 (nF le), aI G (ad 12) 31 (nF fi), aI G (ad 13) 31 (nF se), aI G (ad 14) 31 ti] _ := cong_P (q0 := 1) (fun j _ => congrFun e_3 j) rfl rfl hP
      have hD : va_D A [oM h ad thr sts hs len at_ num many, aI G (ad 1) 68 ((doR (le k) (fi k) (se k) (ti k) L st).2.2), aI G (ad 5) 64 (upd (splitP st L) ((8 * (fi k)) + (se k)) (ti k)), aI G (ad 6) 64 (joinP L (upd (splitP st L) ((8 * (fi k)) + (se k)) (ti k))), aI G (ad 7) 8 u_1, aI G (ad 11) 31 (nF le), aI G (ad 12) 31 (nF fi), aI G (ad 13) 31 (nF se), aI G (ad 14) 31 ti] := cong_D (q0 := 1) rfl rfl hD
      have hP : va_P G.1 vwCl [oM h ad thr sts hs len at_ num many, aI G (ad 1) 68 ((doR (le k) (fi k) (se k) (ti k) L st).2.2), aI G (ad 5) 64 (((upd (splitP st L) ((8 * (fi k)) + (se k)) (ti k), joinP L (upd (splitP st L) ((8 * (fi k)) + (se k)) (ti k)), u_1)).1), aI G (ad 6) 64 (((upd (splitP st L) ((8 * (fi k)) + (se k)) (ti k), joinP L (upd (splitP st L) ((8 * (fi k)) + (se k)) (ti k)), u_1)).2.1), aI G (ad 7) 8 (((upd (splitP st L) ((8 * (fi k)) + (se k)) (ti k), joinP L (upd (splitP st L) ((8 * (fi k)) + (se k)) (ti k)), u_1)).2.2), aI G (ad 11) 31 (nF le), aI G (ad 12) 31 (nF fi), aI G (ad 13) 31 (nF se), aI G (ad 14) 31 ti] _ := hP
      have hD : va_D A [oM h ad thr sts hs len at_ num many, aI G (ad 1) 68 ((doR (le k) (fi k) (se k) (ti k) L st).2.2), aI G (ad 5) 64 (((upd (splitP st L) ((8 * (fi k)) + (se k)) (ti k), joinP L (upd (splitP st L) ((8 * (fi k)) + (se k)) (ti k)), u_1)).1), aI G (ad 6) 64 (((upd (splitP st L) ((8 * (fi k)) + (se k)) (ti k), joinP L (upd (splitP st L) ((8 * (fi k)) + (se k)) (ti k)), u_1)).2.1), aI G (ad 7) 8 (((upd (splitP st L) ((8 * (fi k)) + (se k)) (ti k), joinP L (upd (splitP st L) ((8 * (fi k)) + (se k)) (ti k)), u_1)).2.2), aI G (ad 11) 31 (nF le), aI G (ad 12) 31 (nF fi), aI G (ad 13) 31 (nF se), aI G (ad 14) 31 ti] := hD
      rw [hQQ]
      exact rt_i hx hb hr hlk  ((upd (splitP st L) ((8 * (fi k)) + (se k)) (ti k), joinP L (upd (splitP st L) ((8 * (fi k)) + (se k)) (ti k)), u_1)) dX9_does_144 hP hD hS (by first | exact Nat.le_of_ble_eq_true rfl | (simp only [rm_X9_does]; omega)) (by first | exact Nat.le_of_ble_eq_true rfl | (simp only [rm_X9_does]; omega)) (by first | rfl | (unfold doR; skip; (try rw [if_pos c_25_100]); (try rw [if_pos c_133]); (try rw [c_133]); first | done | rfl))
    · skip
      refine lv_iconst (v := nI 1) hx hb dX9_does_136 (by decide) ?_
      have e_4 : (st) = ((doR (le k) (fi k) (se k) (ti k) L st).2.2) := by first | rfl | (unfold doR; skip; (try rw [if_pos c_25_100]); (try rw [if_neg (ne_true_of_eq_false c_133)]); (try rw [c_133]); first | done | rfl)
      have hP : va_P G.1 vwCl [oM h ad thr sts hs len at_ num many, aI G (ad 1) 68 ((doR (le k) (fi k) (se k) (ti k) L st).2.2), aI G (ad 5) 64 (upd (splitP st L) ((8 * (fi k)) + (se k)) (ti k)), aI G (ad 6) 64 (joinP L (upd (splitP st L) ((8 * (fi k)) + (se k)) (ti k))), aI G (ad 7) 8 u_1, aI G (ad 11) 31 (nF le), aI G (ad 12) 31 (nF fi), aI G (ad 13) 31 (nF se), aI G (ad 14) 31 ti] _ := cong_P (q0 := 1) (fun j _ => congrFun e_4 j) rfl rfl hP
      have hD : va_D A [oM h ad thr sts hs len at_ num many, aI G (ad 1) 68 ((doR (le k) (fi k) (se k) (ti k) L st).2.2), aI G (ad 5) 64 (upd (splitP st L) ((8 * (fi k)) + (se k)) (ti k)), aI G (ad 6) 64 (joinP L (upd (splitP st L) ((8 * (fi k)) + (se k)) (ti k))), aI G (ad 7) 8 u_1, aI G (ad 11) 31 (nF le), aI G (ad 12) 31 (nF fi), aI G (ad 13) 31 (nF se), aI G (ad 14) 31 ti] := cong_D (q0 := 1) rfl rfl hD
      have hP : va_P G.1 vwCl [oM h ad thr sts hs len at_ num many, aI G (ad 1) 68 ((doR (le k) (fi k) (se k) (ti k) L st).2.2), aI G (ad 5) 64 (((upd (splitP st L) ((8 * (fi k)) + (se k)) (ti k), joinP L (upd (splitP st L) ((8 * (fi k)) + (se k)) (ti k)), u_1)).1), aI G (ad 6) 64 (((upd (splitP st L) ((8 * (fi k)) + (se k)) (ti k), joinP L (upd (splitP st L) ((8 * (fi k)) + (se k)) (ti k)), u_1)).2.1), aI G (ad 7) 8 (((upd (splitP st L) ((8 * (fi k)) + (se k)) (ti k), joinP L (upd (splitP st L) ((8 * (fi k)) + (se k)) (ti k)), u_1)).2.2), aI G (ad 11) 31 (nF le), aI G (ad 12) 31 (nF fi), aI G (ad 13) 31 (nF se), aI G (ad 14) 31 ti] _ := hP
      have hD : va_D A [oM h ad thr sts hs len at_ num many, aI G (ad 1) 68 ((doR (le k) (fi k) (se k) (ti k) L st).2.2), aI G (ad 5) 64 (((upd (splitP st L) ((8 * (fi k)) + (se k)) (ti k), joinP L (upd (splitP st L) ((8 * (fi k)) + (se k)) (ti k)), u_1)).1), aI G (ad 6) 64 (((upd (splitP st L) ((8 * (fi k)) + (se k)) (ti k), joinP L (upd (splitP st L) ((8 * (fi k)) + (se k)) (ti k)), u_1)).2.1), aI G (ad 7) 8 (((upd (splitP st L) ((8 * (fi k)) + (se k)) (ti k), joinP L (upd (splitP st L) ((8 * (fi k)) + (se k)) (ti k)), u_1)).2.2), aI G (ad 11) 31 (nF le), aI G (ad 12) 31 (nF fi), aI G (ad 13) 31 (nF se), aI G (ad 14) 31 ti] := hD
      rw [hQQ]
      exact rt_i hx hb hr hlk  ((upd (splitP st L) ((8 * (fi k)) + (se k)) (ti k), joinP L (upd (splitP st L) ((8 * (fi k)) + (se k)) (ti k)), u_1)) dX9_does_137 hP hD hS (by first | exact Nat.le_of_ble_eq_true rfl | (simp only [rm_X9_does]; omega)) (by first | exact Nat.le_of_ble_eq_true rfl | (simp only [rm_X9_does]; omega)) (by first | rfl | (unfold doR; skip; (try rw [if_pos c_25_100]); (try rw [if_neg (ne_true_of_eq_false c_133)]); (try rw [c_133]); first | done | rfl))
  by_cases c_25_108 : (le k) = 108
  · rw [show nI (le k) = nI 108 by rw [c_25_108]]
    refine lv_tableIn (tgt := 171) hx hb dX9_does_25 (by decide) (by decide) (by rfl) (by decide) ?_
    refine lv_aload_n hx hb dX9_does_171 rfl (lv_at hl 2 rfl) ?_
    refine va_get (D := G.1) (ci := 8) (v := .ref (ad 1)) (C := RX9) (T := TX9) (N := 21) hx hb hts in_X9 hown hK hP 0 rfl rfl 1 (by decide) (hts _ q1668) (fun _ h9 => h9) rfl dX9_does_172 ?_
    refine lv_bipush (v := nI 64) hx hb dX9_does_175 (by decide) ?_
    refine lv_aload_n hx hb dX9_does_177 rfl (lv_at hl 2 rfl) ?_
    refine va_get (D := G.1) (ci := 8) (v := .ref (ad 12)) (C := RX9) (T := TX9) (N := 21) hx hb hts in_X9 hown hK hP 0 rfl rfl 18 (by decide) (hts _ q1685) (fun _ h9 => h9) rfl dX9_does_178 ?_
    refine lv_iload_n hx hb dX9_does_181 rfl (lv_at hl 3 rfl) ?_
    refine N_iald hx hb dX9_does_182 hK hP 6 0 rfl rfl (by omega) (by omega) ?_
    refine top_i (y := nI (fi k)) rfl ?_
    refine N_iast (ws' := [oM h ad thr sts hs len at_ num many, aI G (ad 1) 68 (upd st 64 (nI (fi k))), aI G (ad 5) 64 pa, aI G (ad 6) 64 bk, aI G (ad 7) 8 li, aI G (ad 11) 31 (nF le), aI G (ad 12) 31 (nF fi), aI G (ad 13) 31 (nF se), aI G (ad 14) 31 ti]) hx hb dX9_does_183 hK hP hD hS 1 0 rfl rfl (by omega) (by omega) rfl (fun H locs hP hD hS => ?_)
    refine lv_iconst (v := nI 0) hx hb dX9_does_184 (by decide) ?_
    have e_5 : (upd st 64 (nI (fi k))) = ((doR (le k) (fi k) (se k) (ti k) L st).2.2) := by first | rfl | (unfold doR; skip; (try rw [if_neg c_25_100]); (try rw [if_pos c_25_108]); first | done | rfl)
    have hP : va_P G.1 vwCl [oM h ad thr sts hs len at_ num many, aI G (ad 1) 68 ((doR (le k) (fi k) (se k) (ti k) L st).2.2), aI G (ad 5) 64 pa, aI G (ad 6) 64 bk, aI G (ad 7) 8 li, aI G (ad 11) 31 (nF le), aI G (ad 12) 31 (nF fi), aI G (ad 13) 31 (nF se), aI G (ad 14) 31 ti] _ := cong_P (q0 := 1) (fun j _ => congrFun e_5 j) rfl rfl hP
    have hD : va_D A [oM h ad thr sts hs len at_ num many, aI G (ad 1) 68 ((doR (le k) (fi k) (se k) (ti k) L st).2.2), aI G (ad 5) 64 pa, aI G (ad 6) 64 bk, aI G (ad 7) 8 li, aI G (ad 11) 31 (nF le), aI G (ad 12) 31 (nF fi), aI G (ad 13) 31 (nF se), aI G (ad 14) 31 ti] := cong_D (q0 := 1) rfl rfl hD
    have hP : va_P G.1 vwCl [oM h ad thr sts hs len at_ num many, aI G (ad 1) 68 ((doR (le k) (fi k) (se k) (ti k) L st).2.2), aI G (ad 5) 64 (((pa, bk, li)).1), aI G (ad 6) 64 (((pa, bk, li)).2.1), aI G (ad 7) 8 (((pa, bk, li)).2.2), aI G (ad 11) 31 (nF le), aI G (ad 12) 31 (nF fi), aI G (ad 13) 31 (nF se), aI G (ad 14) 31 ti] _ := hP
    have hD : va_D A [oM h ad thr sts hs len at_ num many, aI G (ad 1) 68 ((doR (le k) (fi k) (se k) (ti k) L st).2.2), aI G (ad 5) 64 (((pa, bk, li)).1), aI G (ad 6) 64 (((pa, bk, li)).2.1), aI G (ad 7) 8 (((pa, bk, li)).2.2), aI G (ad 11) 31 (nF le), aI G (ad 12) 31 (nF fi), aI G (ad 13) 31 (nF se), aI G (ad 14) 31 ti] := hD
    rw [hQQ]
    exact rt_i hx hb hr hlk  ((pa, bk, li)) dX9_does_185 hP hD hS (by first | exact Nat.le_of_ble_eq_true rfl | (simp only [rm_X9_does]; omega)) (by first | exact Nat.le_of_ble_eq_true rfl | (simp only [rm_X9_does]; omega)) (by first | rfl | (unfold doR; skip; (try rw [if_neg c_25_100]); (try rw [if_pos c_25_108]); first | done | rfl))
  by_cases c_25_109 : (le k) = 109
  · rw [show nI (le k) = nI 109 by rw [c_25_109]]
    refine lv_tableIn (tgt := 193) hx hb dX9_does_25 (by decide) (by decide) (by rfl) (by decide) ?_
    refine lv_aload_n hx hb dX9_does_193 rfl (lv_at hl 2 rfl) ?_
    refine fin_i (ws' := (fun (_ : Unit) => [oM h ad thr sts hs len at_ num many, aI G (ad 1) 68 (fillTo 64 (turnF true st) st), aI G (ad 5) 64 pa, aI G (ad 6) 64 (turnF true st), aI G (ad 7) 8 li, aI G (ad 11) 31 (nF le), aI G (ad 12) 31 (nF fi), aI G (ad 13) 31 (nF se), aI G (ad 14) 31 ti])) hA hS hP hD [0, 1, 3] rfl [(true, 0), (true, 1), (false, 2), (true, 2), (false, 4), (false, 5), (false, 6), (false, 7), (false, 8)] (fun _ => rfl) (by decide) (run_V (As := []) (rest := []) (n9 := 0) hx hb hml hown hts hE hAb hl.1 hS hP hD [0, 1, 3] rfl (by decide) (t_X9_doMirror l G b0 _ h ad thr sts hs len at_ num many st bk ) (lw_V q1990 q1992 qs90 q129 q1993) 0 rfl rfl ⟨rfl, by decide, by decide, by decide +kernel⟩ ⟨Nat.le_of_ble_eq_true rfl, Nat.le_of_ble_eq_true rfl⟩ ⟨by first | exact Nat.le_of_ble_eq_true rfl | (simp only [rm_X9_does, rm_X9_doMirror]; omega), by first | exact Nat.le_of_ble_eq_true rfl | (simp only [rm_X9_does, rm_X9_doMirror]; omega)⟩ dX9_does_194 (Nat.le_of_ble_eq_true rfl) rfl rfl) (fun r_6 u_6 H locs h_6 hP hD hS => ?_)
    have hP : va_P G.1 vwCl [oM h ad thr sts hs len at_ num many, aI G (ad 1) 68 (fillTo 64 (turnF true st) st), aI G (ad 5) 64 pa, aI G (ad 6) 64 (turnF true st), aI G (ad 7) 8 li, aI G (ad 11) 31 (nF le), aI G (ad 12) 31 (nF fi), aI G (ad 13) 31 (nF se), aI G (ad 14) 31 ti] _ := hP
    have hD : va_D A [oM h ad thr sts hs len at_ num many, aI G (ad 1) 68 (fillTo 64 (turnF true st) st), aI G (ad 5) 64 pa, aI G (ad 6) 64 (turnF true st), aI G (ad 7) 8 li, aI G (ad 11) 31 (nF le), aI G (ad 12) 31 (nF fi), aI G (ad 13) 31 (nF se), aI G (ad 14) 31 ti] := hD
    have h_6 : r_6 = (l_sum (cneI (turnF true st) st) 64) := h_6
    rw [h_6]
    refine lv_istore_n (lv' := [(3, .int (l_sum (cneI (turnF true st) st) 64)), (2, .int (nI ((8 * (fi k)) + (se k)))), (0, .ref h), (1, .int (nI k))]) hx hb dX9_does_197 rfl hl (by decide) rfl (fun ls hl => ?_)
    refine lv_iconst (v := nI 0) hx hb dX9_does_198 (by decide) ?_
    have e_7 : (fillTo 64 (turnF true st) st) = ((doR (le k) (fi k) (se k) (ti k) L st).2.2) := by first | rfl | (unfold doR; skip; (try rw [if_neg c_25_100]); (try rw [if_neg c_25_108]); (try rw [if_pos c_25_109]); first | done | rfl)
    have hP : va_P G.1 vwCl [oM h ad thr sts hs len at_ num many, aI G (ad 1) 68 ((doR (le k) (fi k) (se k) (ti k) L st).2.2), aI G (ad 5) 64 pa, aI G (ad 6) 64 (turnF true st), aI G (ad 7) 8 li, aI G (ad 11) 31 (nF le), aI G (ad 12) 31 (nF fi), aI G (ad 13) 31 (nF se), aI G (ad 14) 31 ti] _ := cong_P (q0 := 1) (fun j _ => congrFun e_7 j) rfl rfl hP
    have hD : va_D A [oM h ad thr sts hs len at_ num many, aI G (ad 1) 68 ((doR (le k) (fi k) (se k) (ti k) L st).2.2), aI G (ad 5) 64 pa, aI G (ad 6) 64 (turnF true st), aI G (ad 7) 8 li, aI G (ad 11) 31 (nF le), aI G (ad 12) 31 (nF fi), aI G (ad 13) 31 (nF se), aI G (ad 14) 31 ti] := cong_D (q0 := 1) rfl rfl hD
    have hP : va_P G.1 vwCl [oM h ad thr sts hs len at_ num many, aI G (ad 1) 68 ((doR (le k) (fi k) (se k) (ti k) L st).2.2), aI G (ad 5) 64 (((pa, turnF true st, li)).1), aI G (ad 6) 64 (((pa, turnF true st, li)).2.1), aI G (ad 7) 8 (((pa, turnF true st, li)).2.2), aI G (ad 11) 31 (nF le), aI G (ad 12) 31 (nF fi), aI G (ad 13) 31 (nF se), aI G (ad 14) 31 ti] _ := hP
    have hD : va_D A [oM h ad thr sts hs len at_ num many, aI G (ad 1) 68 ((doR (le k) (fi k) (se k) (ti k) L st).2.2), aI G (ad 5) 64 (((pa, turnF true st, li)).1), aI G (ad 6) 64 (((pa, turnF true st, li)).2.1), aI G (ad 7) 8 (((pa, turnF true st, li)).2.2), aI G (ad 11) 31 (nF le), aI G (ad 12) 31 (nF fi), aI G (ad 13) 31 (nF se), aI G (ad 14) 31 ti] := hD
    rw [hQQ]
    exact rt_i hx hb hr hlk  ((pa, turnF true st, li)) dX9_does_199 hP hD hS (by first | exact Nat.le_of_ble_eq_true rfl | (simp only [rm_X9_does]; omega)) (by first | exact Nat.le_of_ble_eq_true rfl | (simp only [rm_X9_does]; omega)) (by first | rfl | (unfold doR; skip; (try rw [if_neg c_25_100]); (try rw [if_neg c_25_108]); (try rw [if_pos c_25_109]); first | done | rfl))
  by_cases c_25_112 : (le k) = 112
  · rw [show nI (le k) = nI 112 by rw [c_25_112]]
    refine lv_tableIn (tgt := 108) hx hb dX9_does_25 (by decide) (by decide) (by rfl) (by decide) ?_
    have hb8 := hab (Or.inr (by assumption))
    refine lv_aload_n hx hb dX9_does_108 rfl (lv_at hl 2 rfl) ?_
    refine va_get (D := G.1) (ci := 8) (v := .ref (ad 1)) (C := RX9) (T := TX9) (N := 21) hx hb hts in_X9 hown hK hP 0 rfl rfl 1 (by decide) (hts _ q1668) (fun _ h9 => h9) rfl dX9_does_109 ?_
    refine lv_iload_n hx hb dX9_does_112 rfl (lv_at hl 1 rfl) ?_
    refine lv_aload_n hx hb dX9_does_113 rfl (lv_at hl 2 rfl) ?_
    refine va_get (D := G.1) (ci := 8) (v := .ref (ad 14)) (C := RX9) (T := TX9) (N := 21) hx hb hts in_X9 hown hK hP 0 rfl rfl 20 (by decide) (hts _ q1687) (fun _ h9 => h9) rfl dX9_does_114 ?_
    refine lv_iload_n hx hb dX9_does_117 rfl (lv_at hl 3 rfl) ?_
    refine N_iald hx hb dX9_does_118 hK hP 8 0 rfl rfl (by omega) (by omega) ?_
    refine N_iast (ws' := [oM h ad thr sts hs len at_ num many, aI G (ad 1) 68 (upd st ((8 * (fi k)) + (se k)) (ti k)), aI G (ad 5) 64 pa, aI G (ad 6) 64 bk, aI G (ad 7) 8 li, aI G (ad 11) 31 (nF le), aI G (ad 12) 31 (nF fi), aI G (ad 13) 31 (nF se), aI G (ad 14) 31 ti]) hx hb dX9_does_119 hK hP hD hS 1 0 rfl rfl (by omega) (by omega) rfl (fun H locs hP hD hS => ?_)
    refine lv_iconst (v := nI 0) hx hb dX9_does_120 (by decide) ?_
    have e_8 : (upd st ((8 * (fi k)) + (se k)) (ti k)) = ((doR (le k) (fi k) (se k) (ti k) L st).2.2) := by first | rfl | (unfold doR; skip; (try rw [if_neg c_25_100]); (try rw [if_neg c_25_108]); (try rw [if_neg c_25_109]); (try rw [if_pos c_25_112]); first | done | rfl)
    have hP : va_P G.1 vwCl [oM h ad thr sts hs len at_ num many, aI G (ad 1) 68 ((doR (le k) (fi k) (se k) (ti k) L st).2.2), aI G (ad 5) 64 pa, aI G (ad 6) 64 bk, aI G (ad 7) 8 li, aI G (ad 11) 31 (nF le), aI G (ad 12) 31 (nF fi), aI G (ad 13) 31 (nF se), aI G (ad 14) 31 ti] _ := cong_P (q0 := 1) (fun j _ => congrFun e_8 j) rfl rfl hP
    have hD : va_D A [oM h ad thr sts hs len at_ num many, aI G (ad 1) 68 ((doR (le k) (fi k) (se k) (ti k) L st).2.2), aI G (ad 5) 64 pa, aI G (ad 6) 64 bk, aI G (ad 7) 8 li, aI G (ad 11) 31 (nF le), aI G (ad 12) 31 (nF fi), aI G (ad 13) 31 (nF se), aI G (ad 14) 31 ti] := cong_D (q0 := 1) rfl rfl hD
    have hP : va_P G.1 vwCl [oM h ad thr sts hs len at_ num many, aI G (ad 1) 68 ((doR (le k) (fi k) (se k) (ti k) L st).2.2), aI G (ad 5) 64 (((pa, bk, li)).1), aI G (ad 6) 64 (((pa, bk, li)).2.1), aI G (ad 7) 8 (((pa, bk, li)).2.2), aI G (ad 11) 31 (nF le), aI G (ad 12) 31 (nF fi), aI G (ad 13) 31 (nF se), aI G (ad 14) 31 ti] _ := hP
    have hD : va_D A [oM h ad thr sts hs len at_ num many, aI G (ad 1) 68 ((doR (le k) (fi k) (se k) (ti k) L st).2.2), aI G (ad 5) 64 (((pa, bk, li)).1), aI G (ad 6) 64 (((pa, bk, li)).2.1), aI G (ad 7) 8 (((pa, bk, li)).2.2), aI G (ad 11) 31 (nF le), aI G (ad 12) 31 (nF fi), aI G (ad 13) 31 (nF se), aI G (ad 14) 31 ti] := hD
    rw [hQQ]
    exact rt_i hx hb hr hlk  ((pa, bk, li)) dX9_does_121 hP hD hS (by first | exact Nat.le_of_ble_eq_true rfl | (simp only [rm_X9_does]; omega)) (by first | exact Nat.le_of_ble_eq_true rfl | (simp only [rm_X9_does]; omega)) (by first | rfl | (unfold doR; skip; (try rw [if_neg c_25_100]); (try rw [if_neg c_25_108]); (try rw [if_neg c_25_109]); (try rw [if_pos c_25_112]); first | done | rfl))
  by_cases c_25_114 : (le k) = 114
  · rw [show nI (le k) = nI 114 by rw [c_25_114]]
    refine lv_tableIn (tgt := 186) hx hb dX9_does_25 (by decide) (by decide) (by rfl) (by decide) ?_
    refine lv_aload_n hx hb dX9_does_186 rfl (lv_at hl 2 rfl) ?_
    refine fin_i (ws' := (fun (_ : Unit) => [oM h ad thr sts hs len at_ num many, aI G (ad 1) 68 (fillTo 64 (turnF false st) st), aI G (ad 5) 64 pa, aI G (ad 6) 64 (turnF false st), aI G (ad 7) 8 li, aI G (ad 11) 31 (nF le), aI G (ad 12) 31 (nF fi), aI G (ad 13) 31 (nF se), aI G (ad 14) 31 ti])) hA hS hP hD [0, 1, 3] rfl [(true, 0), (true, 1), (false, 2), (true, 2), (false, 4), (false, 5), (false, 6), (false, 7), (false, 8)] (fun _ => rfl) (by decide) (run_V (As := []) (rest := []) (n9 := 0) hx hb hml hown hts hE hAb hl.1 hS hP hD [0, 1, 3] rfl (by decide) (t_X9_doTurn l G b0 _ h ad thr sts hs len at_ num many st bk ) (lw_V q1982 q1984 qs89 q129 q1985) 0 rfl rfl ⟨rfl, by decide, by decide, by decide +kernel⟩ ⟨Nat.le_of_ble_eq_true rfl, Nat.le_of_ble_eq_true rfl⟩ ⟨by first | exact Nat.le_of_ble_eq_true rfl | (simp only [rm_X9_does, rm_X9_doTurn]; omega), by first | exact Nat.le_of_ble_eq_true rfl | (simp only [rm_X9_does, rm_X9_doTurn]; omega)⟩ dX9_does_187 (Nat.le_of_ble_eq_true rfl) rfl rfl) (fun r_9 u_9 H locs h_9 hP hD hS => ?_)
    have hP : va_P G.1 vwCl [oM h ad thr sts hs len at_ num many, aI G (ad 1) 68 (fillTo 64 (turnF false st) st), aI G (ad 5) 64 pa, aI G (ad 6) 64 (turnF false st), aI G (ad 7) 8 li, aI G (ad 11) 31 (nF le), aI G (ad 12) 31 (nF fi), aI G (ad 13) 31 (nF se), aI G (ad 14) 31 ti] _ := hP
    have hD : va_D A [oM h ad thr sts hs len at_ num many, aI G (ad 1) 68 (fillTo 64 (turnF false st) st), aI G (ad 5) 64 pa, aI G (ad 6) 64 (turnF false st), aI G (ad 7) 8 li, aI G (ad 11) 31 (nF le), aI G (ad 12) 31 (nF fi), aI G (ad 13) 31 (nF se), aI G (ad 14) 31 ti] := hD
    have h_9 : r_9 = (l_sum (cneI (turnF false st) st) 64) := h_9
    rw [h_9]
    refine lv_istore_n (lv' := [(3, .int (l_sum (cneI (turnF false st) st) 64)), (2, .int (nI ((8 * (fi k)) + (se k)))), (0, .ref h), (1, .int (nI k))]) hx hb dX9_does_190 rfl hl (by decide) rfl (fun ls hl => ?_)
    refine lv_iconst (v := nI 0) hx hb dX9_does_191 (by decide) ?_
    have e_10 : (fillTo 64 (turnF false st) st) = ((doR (le k) (fi k) (se k) (ti k) L st).2.2) := by first | rfl | (unfold doR; skip; (try rw [if_neg c_25_100]); (try rw [if_neg c_25_108]); (try rw [if_neg c_25_109]); (try rw [if_neg c_25_112]); (try rw [if_pos c_25_114]); first | done | rfl)
    have hP : va_P G.1 vwCl [oM h ad thr sts hs len at_ num many, aI G (ad 1) 68 ((doR (le k) (fi k) (se k) (ti k) L st).2.2), aI G (ad 5) 64 pa, aI G (ad 6) 64 (turnF false st), aI G (ad 7) 8 li, aI G (ad 11) 31 (nF le), aI G (ad 12) 31 (nF fi), aI G (ad 13) 31 (nF se), aI G (ad 14) 31 ti] _ := cong_P (q0 := 1) (fun j _ => congrFun e_10 j) rfl rfl hP
    have hD : va_D A [oM h ad thr sts hs len at_ num many, aI G (ad 1) 68 ((doR (le k) (fi k) (se k) (ti k) L st).2.2), aI G (ad 5) 64 pa, aI G (ad 6) 64 (turnF false st), aI G (ad 7) 8 li, aI G (ad 11) 31 (nF le), aI G (ad 12) 31 (nF fi), aI G (ad 13) 31 (nF se), aI G (ad 14) 31 ti] := cong_D (q0 := 1) rfl rfl hD
    have hP : va_P G.1 vwCl [oM h ad thr sts hs len at_ num many, aI G (ad 1) 68 ((doR (le k) (fi k) (se k) (ti k) L st).2.2), aI G (ad 5) 64 (((pa, turnF false st, li)).1), aI G (ad 6) 64 (((pa, turnF false st, li)).2.1), aI G (ad 7) 8 (((pa, turnF false st, li)).2.2), aI G (ad 11) 31 (nF le), aI G (ad 12) 31 (nF fi), aI G (ad 13) 31 (nF se), aI G (ad 14) 31 ti] _ := hP
    have hD : va_D A [oM h ad thr sts hs len at_ num many, aI G (ad 1) 68 ((doR (le k) (fi k) (se k) (ti k) L st).2.2), aI G (ad 5) 64 (((pa, turnF false st, li)).1), aI G (ad 6) 64 (((pa, turnF false st, li)).2.1), aI G (ad 7) 8 (((pa, turnF false st, li)).2.2), aI G (ad 11) 31 (nF le), aI G (ad 12) 31 (nF fi), aI G (ad 13) 31 (nF se), aI G (ad 14) 31 ti] := hD
    rw [hQQ]
    exact rt_i hx hb hr hlk  ((pa, turnF false st, li)) dX9_does_192 hP hD hS (by first | exact Nat.le_of_ble_eq_true rfl | (simp only [rm_X9_does]; omega)) (by first | exact Nat.le_of_ble_eq_true rfl | (simp only [rm_X9_does]; omega)) (by first | rfl | (unfold doR; skip; (try rw [if_neg c_25_100]); (try rw [if_neg c_25_108]); (try rw [if_neg c_25_109]); (try rw [if_neg c_25_112]); (try rw [if_pos c_25_114]); first | done | rfl))
  by_cases c_25_116 : (le k) = 116
  · rw [show nI (le k) = nI 116 by rw [c_25_116]]
    refine lv_tableIn (tgt := 145) hx hb dX9_does_25 (by decide) (by decide) (by rfl) (by decide) ?_
    refine lv_aload_n hx hb dX9_does_145 rfl (lv_at hl 2 rfl) ?_
    refine lv_aload_n hx hb dX9_does_146 rfl (lv_at hl 2 rfl) ?_
    refine va_get (D := G.1) (ci := 8) (v := .ref (ad 12)) (C := RX9) (T := TX9) (N := 21) hx hb hts in_X9 hown hK hP 0 rfl rfl 18 (by decide) (hts _ q1685) (fun _ h9 => h9) rfl dX9_does_147 ?_
    refine lv_iload_n hx hb dX9_does_150 rfl (lv_at hl 3 rfl) ?_
    refine N_iald hx hb dX9_does_151 hK hP 6 0 rfl rfl (by omega) (by omega) ?_
    refine top_i (y := nI (fi k)) rfl ?_
    refine fin_i (ws' := (fun (u_11 : Nat → Int32) => [oM h ad thr sts hs len at_ num many, aI G (ad 1) 68 st, aI G (ad 5) 64 (drpA L (nI (fi k)) (splitP st L)), aI G (ad 6) 64 bk, aI G (ad 7) 8 u_11, aI G (ad 11) 31 (nF le), aI G (ad 12) 31 (nF fi), aI G (ad 13) 31 (nF se), aI G (ad 14) 31 ti])) hA hS hP hD [0, 1, 2, 4] rfl [(true, 0), (true, 1), (true, 2), (false, 3), (true, 3), (false, 5), (false, 6), (false, 7), (false, 8)] (fun _ => rfl) (by decide) (run_V (As := [.int (nI (fi k))]) (rest := []) (n9 := 1) hx hb hml hown hts hE hAb hl.1 hS hP hD [0, 1, 2, 4] rfl (by decide) (t_X9_dropFrom l G b0 _ h ad thr sts hs len at_ num many st pa li L (nI (fi k)) (by omega) (by omega) (by omega)) (lw_V q1773 q1775 qs63 q129 q1776) 0 rfl rfl ⟨rfl, by decide, by decide, by decide +kernel⟩ ⟨Nat.le_of_ble_eq_true rfl, Nat.le_of_ble_eq_true rfl⟩ ⟨by first | exact Nat.le_of_ble_eq_true rfl | (simp only [rm_X9_does, rm_X9_dropFrom]; omega), by first | exact Nat.le_of_ble_eq_true rfl | (simp only [rm_X9_does, rm_X9_dropFrom]; omega)⟩ dX9_does_152 (Nat.le_of_ble_eq_true rfl) rfl rfl) (fun r_11 u_11 H locs h_11 hP hD hS => ?_)
    have hP : va_P G.1 vwCl [oM h ad thr sts hs len at_ num many, aI G (ad 1) 68 st, aI G (ad 5) 64 (drpA L (nI (fi k)) (splitP st L)), aI G (ad 6) 64 bk, aI G (ad 7) 8 u_11, aI G (ad 11) 31 (nF le), aI G (ad 12) 31 (nF fi), aI G (ad 13) 31 (nF se), aI G (ad 14) 31 ti] _ := hP
    have hD : va_D A [oM h ad thr sts hs len at_ num many, aI G (ad 1) 68 st, aI G (ad 5) 64 (drpA L (nI (fi k)) (splitP st L)), aI G (ad 6) 64 bk, aI G (ad 7) 8 u_11, aI G (ad 11) 31 (nF le), aI G (ad 12) 31 (nF fi), aI G (ad 13) 31 (nF se), aI G (ad 14) 31 ti] := hD
    have h_11 : r_11 = (l_sum (crmN L (nI (fi k)) (splitP st L)) 64) := h_11
    rw [h_11]
    refine lv_if_ne (tgt := 160) hx hb dX9_does_155 (by decide) (fun c_155 => ?_) (fun c_155 => ?_)
    · skip
      refine lv_aload_n hx hb dX9_does_160 rfl (lv_at hl 2 rfl) ?_
      refine fin_v (ws' := (fun (u_12 : Nat → Int32) => [oM h ad thr sts hs len at_ num many, aI G (ad 1) 68 st, aI G (ad 5) 64 (drpA L (nI (fi k)) (splitP st L)), aI G (ad 6) 64 (clmF (joinP L (drpA L (nI (fi k)) (splitP st L)))), aI G (ad 7) 8 u_12, aI G (ad 11) 31 (nF le), aI G (ad 12) 31 (nF fi), aI G (ad 13) 31 (nF se), aI G (ad 14) 31 ti])) hA hS hP hD [0, 1, 2, 3, 4] rfl [(true, 0), (true, 1), (true, 2), (true, 3), (true, 4), (false, 5), (false, 6), (false, 7), (false, 8)] (fun _ => rfl) (by decide) (run_V (As := []) (rest := []) (n9 := 0) hx hb hml hown hts hE hAb hl.1 hS hP hD [0, 1, 2, 3, 4] rfl (by decide) (t_X9_joinClamped l G b0 _ h ad thr sts hs len at_ num many st (drpA L (nI (fi k)) (splitP st L)) bk u_11 L (by omega) (by omega) (by omega)) (lw_V q1810 q1812 qs69 q129 q1813) 0 rfl rfl ⟨rfl, by decide, by decide, by decide +kernel⟩ ⟨Nat.le_of_ble_eq_true rfl, Nat.le_of_ble_eq_true rfl⟩ ⟨by first | exact Nat.le_of_ble_eq_true rfl | (simp only [rm_X9_does, rm_X9_joinClamped]; omega), by first | exact Nat.le_of_ble_eq_true rfl | (simp only [rm_X9_does, rm_X9_joinClamped]; omega)⟩ dX9_does_161 (Nat.le_of_ble_eq_true rfl) rfl rfl) (fun u_12 H locs h_12 hP hD hS => ?_)
      have hP : va_P G.1 vwCl [oM h ad thr sts hs len at_ num many, aI G (ad 1) 68 st, aI G (ad 5) 64 (drpA L (nI (fi k)) (splitP st L)), aI G (ad 6) 64 (clmF (joinP L (drpA L (nI (fi k)) (splitP st L)))), aI G (ad 7) 8 u_12, aI G (ad 11) 31 (nF le), aI G (ad 12) 31 (nF fi), aI G (ad 13) 31 (nF se), aI G (ad 14) 31 ti] _ := hP
      have hD : va_D A [oM h ad thr sts hs len at_ num many, aI G (ad 1) 68 st, aI G (ad 5) 64 (drpA L (nI (fi k)) (splitP st L)), aI G (ad 6) 64 (clmF (joinP L (drpA L (nI (fi k)) (splitP st L)))), aI G (ad 7) 8 u_12, aI G (ad 11) 31 (nF le), aI G (ad 12) 31 (nF fi), aI G (ad 13) 31 (nF se), aI G (ad 14) 31 ti] := hD
      refine lv_aload_n hx hb dX9_does_164 rfl (lv_at hl 2 rfl) ?_
      refine fin_i (ws' := (fun (_ : Unit) => [oM h ad thr sts hs len at_ num many, aI G (ad 1) 68 (fillTo 64 (clmF (joinP L (drpA L (nI (fi k)) (splitP st L)))) st), aI G (ad 5) 64 (drpA L (nI (fi k)) (splitP st L)), aI G (ad 6) 64 (clmF (joinP L (drpA L (nI (fi k)) (splitP st L)))), aI G (ad 7) 8 u_12, aI G (ad 11) 31 (nF le), aI G (ad 12) 31 (nF fi), aI G (ad 13) 31 (nF se), aI G (ad 14) 31 ti])) hA hS hP hD [0, 1, 3] rfl [(true, 0), (true, 1), (false, 2), (true, 2), (false, 4), (false, 5), (false, 6), (false, 7), (false, 8)] (fun _ => rfl) (by decide) (run_V (As := []) (rest := []) (n9 := 0) hx hb hml hown hts hE hAb hl.1 hS hP hD [0, 1, 3] rfl (by decide) (t_X9_takeBack l G b0 _ h ad thr sts hs len at_ num many st (clmF (joinP L (drpA L (nI (fi k)) (splitP st L)))) ) (lw_V q1966 q1968 qs88 q129 q1969) 0 rfl rfl ⟨rfl, by decide, by decide, by decide +kernel⟩ ⟨Nat.le_of_ble_eq_true rfl, Nat.le_of_ble_eq_true rfl⟩ ⟨by first | exact Nat.le_of_ble_eq_true rfl | (simp only [rm_X9_does, rm_X9_takeBack]; omega), by first | exact Nat.le_of_ble_eq_true rfl | (simp only [rm_X9_does, rm_X9_takeBack]; omega)⟩ dX9_does_165 (Nat.le_of_ble_eq_true rfl) rfl rfl) (fun r_13 u_13 H locs h_13 hP hD hS => ?_)
      have hP : va_P G.1 vwCl [oM h ad thr sts hs len at_ num many, aI G (ad 1) 68 (fillTo 64 (clmF (joinP L (drpA L (nI (fi k)) (splitP st L)))) st), aI G (ad 5) 64 (drpA L (nI (fi k)) (splitP st L)), aI G (ad 6) 64 (clmF (joinP L (drpA L (nI (fi k)) (splitP st L)))), aI G (ad 7) 8 u_12, aI G (ad 11) 31 (nF le), aI G (ad 12) 31 (nF fi), aI G (ad 13) 31 (nF se), aI G (ad 14) 31 ti] _ := hP
      have hD : va_D A [oM h ad thr sts hs len at_ num many, aI G (ad 1) 68 (fillTo 64 (clmF (joinP L (drpA L (nI (fi k)) (splitP st L)))) st), aI G (ad 5) 64 (drpA L (nI (fi k)) (splitP st L)), aI G (ad 6) 64 (clmF (joinP L (drpA L (nI (fi k)) (splitP st L)))), aI G (ad 7) 8 u_12, aI G (ad 11) 31 (nF le), aI G (ad 12) 31 (nF fi), aI G (ad 13) 31 (nF se), aI G (ad 14) 31 ti] := hD
      have h_13 : r_13 = (l_sum (cneI (clmF (joinP L (drpA L (nI (fi k)) (splitP st L)))) st) 64) := h_13
      rw [h_13]
      refine lv_istore_n (lv' := [(3, .int (l_sum (cneI (clmF (joinP L (drpA L (nI (fi k)) (splitP st L)))) st) 64)), (2, .int (nI ((8 * (fi k)) + (se k)))), (0, .ref h), (1, .int (nI k))]) hx hb dX9_does_168 rfl hl (by decide) rfl (fun ls hl => ?_)
      refine lv_iconst (v := nI 0) hx hb dX9_does_169 (by decide) ?_
      have e_14 : (fillTo 64 (clmF (joinP L (drpA L (nI (fi k)) (splitP st L)))) st) = ((doR (le k) (fi k) (se k) (ti k) L st).2.2) := by first | rfl | (unfold doR; skip; (try rw [if_neg c_25_100]); (try rw [if_neg c_25_108]); (try rw [if_neg c_25_109]); (try rw [if_neg c_25_112]); (try rw [if_neg c_25_114]); (try rw [if_pos c_25_116]); (try rw [if_neg c_155]); first | done | rfl)
      have hP : va_P G.1 vwCl [oM h ad thr sts hs len at_ num many, aI G (ad 1) 68 ((doR (le k) (fi k) (se k) (ti k) L st).2.2), aI G (ad 5) 64 (drpA L (nI (fi k)) (splitP st L)), aI G (ad 6) 64 (clmF (joinP L (drpA L (nI (fi k)) (splitP st L)))), aI G (ad 7) 8 u_12, aI G (ad 11) 31 (nF le), aI G (ad 12) 31 (nF fi), aI G (ad 13) 31 (nF se), aI G (ad 14) 31 ti] _ := cong_P (q0 := 1) (fun j _ => congrFun e_14 j) rfl rfl hP
      have hD : va_D A [oM h ad thr sts hs len at_ num many, aI G (ad 1) 68 ((doR (le k) (fi k) (se k) (ti k) L st).2.2), aI G (ad 5) 64 (drpA L (nI (fi k)) (splitP st L)), aI G (ad 6) 64 (clmF (joinP L (drpA L (nI (fi k)) (splitP st L)))), aI G (ad 7) 8 u_12, aI G (ad 11) 31 (nF le), aI G (ad 12) 31 (nF fi), aI G (ad 13) 31 (nF se), aI G (ad 14) 31 ti] := cong_D (q0 := 1) rfl rfl hD
      have hP : va_P G.1 vwCl [oM h ad thr sts hs len at_ num many, aI G (ad 1) 68 ((doR (le k) (fi k) (se k) (ti k) L st).2.2), aI G (ad 5) 64 (((drpA L (nI (fi k)) (splitP st L), clmF (joinP L (drpA L (nI (fi k)) (splitP st L))), u_12)).1), aI G (ad 6) 64 (((drpA L (nI (fi k)) (splitP st L), clmF (joinP L (drpA L (nI (fi k)) (splitP st L))), u_12)).2.1), aI G (ad 7) 8 (((drpA L (nI (fi k)) (splitP st L), clmF (joinP L (drpA L (nI (fi k)) (splitP st L))), u_12)).2.2), aI G (ad 11) 31 (nF le), aI G (ad 12) 31 (nF fi), aI G (ad 13) 31 (nF se), aI G (ad 14) 31 ti] _ := hP
      have hD : va_D A [oM h ad thr sts hs len at_ num many, aI G (ad 1) 68 ((doR (le k) (fi k) (se k) (ti k) L st).2.2), aI G (ad 5) 64 (((drpA L (nI (fi k)) (splitP st L), clmF (joinP L (drpA L (nI (fi k)) (splitP st L))), u_12)).1), aI G (ad 6) 64 (((drpA L (nI (fi k)) (splitP st L), clmF (joinP L (drpA L (nI (fi k)) (splitP st L))), u_12)).2.1), aI G (ad 7) 8 (((drpA L (nI (fi k)) (splitP st L), clmF (joinP L (drpA L (nI (fi k)) (splitP st L))), u_12)).2.2), aI G (ad 11) 31 (nF le), aI G (ad 12) 31 (nF fi), aI G (ad 13) 31 (nF se), aI G (ad 14) 31 ti] := hD
      rw [hQQ]
      exact rt_i hx hb hr hlk  ((drpA L (nI (fi k)) (splitP st L), clmF (joinP L (drpA L (nI (fi k)) (splitP st L))), u_12)) dX9_does_170 hP hD hS (by first | exact Nat.le_of_ble_eq_true rfl | (simp only [rm_X9_does]; omega)) (by first | exact Nat.le_of_ble_eq_true rfl | (simp only [rm_X9_does]; omega)) (by first | rfl | (unfold doR; skip; (try rw [if_neg c_25_100]); (try rw [if_neg c_25_108]); (try rw [if_neg c_25_109]); (try rw [if_neg c_25_112]); (try rw [if_neg c_25_114]); (try rw [if_pos c_25_116]); (try rw [if_neg c_155]); first | done | rfl))
    · skip
      refine lv_iconst (v := nI 2) hx hb dX9_does_158 (by decide) ?_
      have e_15 : (st) = ((doR (le k) (fi k) (se k) (ti k) L st).2.2) := by first | rfl | (unfold doR; skip; (try rw [if_neg c_25_100]); (try rw [if_neg c_25_108]); (try rw [if_neg c_25_109]); (try rw [if_neg c_25_112]); (try rw [if_neg c_25_114]); (try rw [if_pos c_25_116]); (try rw [if_pos c_155]); first | done | rfl)
      have hP : va_P G.1 vwCl [oM h ad thr sts hs len at_ num many, aI G (ad 1) 68 ((doR (le k) (fi k) (se k) (ti k) L st).2.2), aI G (ad 5) 64 (drpA L (nI (fi k)) (splitP st L)), aI G (ad 6) 64 bk, aI G (ad 7) 8 u_11, aI G (ad 11) 31 (nF le), aI G (ad 12) 31 (nF fi), aI G (ad 13) 31 (nF se), aI G (ad 14) 31 ti] _ := cong_P (q0 := 1) (fun j _ => congrFun e_15 j) rfl rfl hP
      have hD : va_D A [oM h ad thr sts hs len at_ num many, aI G (ad 1) 68 ((doR (le k) (fi k) (se k) (ti k) L st).2.2), aI G (ad 5) 64 (drpA L (nI (fi k)) (splitP st L)), aI G (ad 6) 64 bk, aI G (ad 7) 8 u_11, aI G (ad 11) 31 (nF le), aI G (ad 12) 31 (nF fi), aI G (ad 13) 31 (nF se), aI G (ad 14) 31 ti] := cong_D (q0 := 1) rfl rfl hD
      have hP : va_P G.1 vwCl [oM h ad thr sts hs len at_ num many, aI G (ad 1) 68 ((doR (le k) (fi k) (se k) (ti k) L st).2.2), aI G (ad 5) 64 (((drpA L (nI (fi k)) (splitP st L), bk, u_11)).1), aI G (ad 6) 64 (((drpA L (nI (fi k)) (splitP st L), bk, u_11)).2.1), aI G (ad 7) 8 (((drpA L (nI (fi k)) (splitP st L), bk, u_11)).2.2), aI G (ad 11) 31 (nF le), aI G (ad 12) 31 (nF fi), aI G (ad 13) 31 (nF se), aI G (ad 14) 31 ti] _ := hP
      have hD : va_D A [oM h ad thr sts hs len at_ num many, aI G (ad 1) 68 ((doR (le k) (fi k) (se k) (ti k) L st).2.2), aI G (ad 5) 64 (((drpA L (nI (fi k)) (splitP st L), bk, u_11)).1), aI G (ad 6) 64 (((drpA L (nI (fi k)) (splitP st L), bk, u_11)).2.1), aI G (ad 7) 8 (((drpA L (nI (fi k)) (splitP st L), bk, u_11)).2.2), aI G (ad 11) 31 (nF le), aI G (ad 12) 31 (nF fi), aI G (ad 13) 31 (nF se), aI G (ad 14) 31 ti] := hD
      rw [hQQ]
      exact rt_i hx hb hr hlk  ((drpA L (nI (fi k)) (splitP st L), bk, u_11)) dX9_does_159 hP hD hS (by first | exact Nat.le_of_ble_eq_true rfl | (simp only [rm_X9_does]; omega)) (by first | exact Nat.le_of_ble_eq_true rfl | (simp only [rm_X9_does]; omega)) (by first | rfl | (unfold doR; skip; (try rw [if_neg c_25_100]); (try rw [if_neg c_25_108]); (try rw [if_neg c_25_109]); (try rw [if_neg c_25_112]); (try rw [if_neg c_25_114]); (try rw [if_pos c_25_116]); (try rw [if_pos c_155]); first | done | rfl))
  refine N_tabD (tgt := 200) (lo' := 100) (n := 16) hx hb dX9_does_25 (by omega) rfl rfl (fun h1_ h2_ => (show ∀ j, j < 17 → (j ≠ 0 ∧ j ≠ 8 ∧ j ≠ 9 ∧ j ≠ 12 ∧ j ≠ 14 ∧ j ≠ 16) → (#[97, 175, 175, 175, 175, 175, 175, 175, 146, 168, 175, 175, 83, 175, 161, 175, 120] : Array Int)[j]? = some 175 by decide) _ (by omega) (by omega)) (by decide) ?_
  refine lv_aload_n hx hb dX9_does_200 rfl (lv_at hl 2 rfl) ?_
  refine fin_v (ws' := (fun (_ : Unit) => [oM h ad thr sts hs len at_ num many, aI G (ad 1) 68 (fillTo 64 (invF st) st), aI G (ad 5) 64 pa, aI G (ad 6) 64 bk, aI G (ad 7) 8 li, aI G (ad 11) 31 (nF le), aI G (ad 12) 31 (nF fi), aI G (ad 13) 31 (nF se), aI G (ad 14) 31 ti])) hA hS hP hD [0, 1] rfl [(true, 0), (true, 1), (false, 2), (false, 3), (false, 4), (false, 5), (false, 6), (false, 7), (false, 8)] (fun _ => rfl) (by decide) (run_V (As := []) (rest := []) (n9 := 0) hx hb hml hown hts hE hAb hl.1 hS hP hD [0, 1] rfl (by decide) (t_X9_doInvert l G b0 _ h ad thr sts hs len at_ num many st ) (lw_V q1998 q2000 qs91 q129 q2001) 0 rfl rfl ⟨rfl, by decide, by decide, by decide +kernel⟩ ⟨Nat.le_of_ble_eq_true rfl, Nat.le_of_ble_eq_true rfl⟩ ⟨by first | exact Nat.le_of_ble_eq_true rfl | (simp only [rm_X9_does, rm_X9_doInvert]; omega), by first | exact Nat.le_of_ble_eq_true rfl | (simp only [rm_X9_does, rm_X9_doInvert]; omega)⟩ dX9_does_201 (Nat.le_of_ble_eq_true rfl) rfl rfl) (fun u_16 H locs h_16 hP hD hS => ?_)
  have hP : va_P G.1 vwCl [oM h ad thr sts hs len at_ num many, aI G (ad 1) 68 (fillTo 64 (invF st) st), aI G (ad 5) 64 pa, aI G (ad 6) 64 bk, aI G (ad 7) 8 li, aI G (ad 11) 31 (nF le), aI G (ad 12) 31 (nF fi), aI G (ad 13) 31 (nF se), aI G (ad 14) 31 ti] _ := hP
  have hD : va_D A [oM h ad thr sts hs len at_ num many, aI G (ad 1) 68 (fillTo 64 (invF st) st), aI G (ad 5) 64 pa, aI G (ad 6) 64 bk, aI G (ad 7) 8 li, aI G (ad 11) 31 (nF le), aI G (ad 12) 31 (nF fi), aI G (ad 13) 31 (nF se), aI G (ad 14) 31 ti] := hD
  refine lv_iconst (v := nI 0) hx hb dX9_does_204 (by decide) ?_
  have e_17 : (fillTo 64 (invF st) st) = ((doR (le k) (fi k) (se k) (ti k) L st).2.2) := by first | rfl | (unfold doR; skip; (try rw [if_neg c_25_100]); (try rw [if_neg c_25_108]); (try rw [if_neg c_25_109]); (try rw [if_neg c_25_112]); (try rw [if_neg c_25_114]); (try rw [if_neg c_25_116]); first | done | rfl)
  have hP : va_P G.1 vwCl [oM h ad thr sts hs len at_ num many, aI G (ad 1) 68 ((doR (le k) (fi k) (se k) (ti k) L st).2.2), aI G (ad 5) 64 pa, aI G (ad 6) 64 bk, aI G (ad 7) 8 li, aI G (ad 11) 31 (nF le), aI G (ad 12) 31 (nF fi), aI G (ad 13) 31 (nF se), aI G (ad 14) 31 ti] _ := cong_P (q0 := 1) (fun j _ => congrFun e_17 j) rfl rfl hP
  have hD : va_D A [oM h ad thr sts hs len at_ num many, aI G (ad 1) 68 ((doR (le k) (fi k) (se k) (ti k) L st).2.2), aI G (ad 5) 64 pa, aI G (ad 6) 64 bk, aI G (ad 7) 8 li, aI G (ad 11) 31 (nF le), aI G (ad 12) 31 (nF fi), aI G (ad 13) 31 (nF se), aI G (ad 14) 31 ti] := cong_D (q0 := 1) rfl rfl hD
  have hP : va_P G.1 vwCl [oM h ad thr sts hs len at_ num many, aI G (ad 1) 68 ((doR (le k) (fi k) (se k) (ti k) L st).2.2), aI G (ad 5) 64 (((pa, bk, li)).1), aI G (ad 6) 64 (((pa, bk, li)).2.1), aI G (ad 7) 8 (((pa, bk, li)).2.2), aI G (ad 11) 31 (nF le), aI G (ad 12) 31 (nF fi), aI G (ad 13) 31 (nF se), aI G (ad 14) 31 ti] _ := hP
  have hD : va_D A [oM h ad thr sts hs len at_ num many, aI G (ad 1) 68 ((doR (le k) (fi k) (se k) (ti k) L st).2.2), aI G (ad 5) 64 (((pa, bk, li)).1), aI G (ad 6) 64 (((pa, bk, li)).2.1), aI G (ad 7) 8 (((pa, bk, li)).2.2), aI G (ad 11) 31 (nF le), aI G (ad 12) 31 (nF fi), aI G (ad 13) 31 (nF se), aI G (ad 14) 31 ti] := hD
  rw [hQQ]
  exact rt_i hx hb hr hlk  ((pa, bk, li)) dX9_does_205 hP hD hS (by first | exact Nat.le_of_ble_eq_true rfl | (simp only [rm_X9_does]; omega)) (by first | exact Nat.le_of_ble_eq_true rfl | (simp only [rm_X9_does]; omega)) (by first | rfl | (unfold doR; skip; (try rw [if_neg c_25_100]); (try rw [if_neg c_25_108]); (try rw [if_neg c_25_109]); (try rw [if_neg c_25_112]); (try rw [if_neg c_25_114]); (try rw [if_neg c_25_116]); first | done | rfl))
