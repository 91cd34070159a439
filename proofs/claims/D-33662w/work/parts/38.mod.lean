/-! ===== the reference: parts of works ===== -/
def asgO (ch : Nat → Nat) (len : Nat) (b : Bool) (i : Nat) : Bool := if (celR ch len i).1 = true then (asgN ch len b i).1 else false
def asgP (ch : Nat → Nat) (len : Nat) (b : Bool) (i : Nat) : Nat := if (celR ch len i).1 = true then (asgN ch len b i).2.2 else (celR ch len i).2.1
theorem asgI_le {ch : Nat → Nat} {len : Nat} {b : Bool} {i : Nat} (h : i ≤ len) : asgI ch len b i ≤ len ∧ i ≤ asgI ch len b i := by
  unfold asgI
  split
  · exact sgA_le h
  · omega
theorem asgN_at {ch : Nat → Nat} {len : Nat} {b : Bool} {i : Nat} (h : i ≤ len) : (asgN ch len b i).2.2 ≤ len ∧ (asgN ch len b i).2.1 ≤ 255 := by
  have := rdR_at (ch := ch) (lo := asgL (asgM ch len b (celR ch len i).2.1)) (hi := 255) (asgI_le (ch := ch) (b := b) (celR_le (ch := ch) h)).1
  exact ⟨this.1, this.2.1⟩
theorem asgP_le {ch : Nat → Nat} {len : Nat} {b : Bool} {i : Nat} (h : i ≤ len) : asgP ch len b i ≤ len := by
  unfold asgP
  split
  · exact (asgN_at h).1
  · exact celR_le h
/-- whether a part stands at i, and the place behind it (or where it fails) -/
def ptO (ch : Nat → Nat) (len i : Nat) : Bool × Nat :=
  if i = len then (false, i)
  else if ch i = 100 then (asgO ch len true (i + 1), asgP ch len true (i + 1))
  else if ch i = 105 then (true, i + 1)
  else if ch i = 108 then ((rdR ch len 1 3 (i + 1)).1, (rdR ch len 1 3 (i + 1)).2.2)
  else if ch i = 109 then (true, i + 1)
  else if ch i = 112 then (asgO ch len false (i + 1), asgP ch len false (i + 1))
  else if ch i = 114 then (true, i + 1)
  else if ch i = 116 then ((rdR ch len 0 255 (i + 1)).1, (rdR ch len 0 255 (i + 1)).2.2)
  else (false, i)
/-- what is kept of a part at i, in slot k -/
def ptD (ch : Nat → Nat) (len i k : Nat) (le fi se : Nat → Nat) (ti : Nat → Int32) : Prop :=
  (ptO ch len i).1 = true ∧ le k = ch i ∧ (ch i = 100 ∨ ch i = 112 → fi k = (celR ch len (i + 1)).2.2.1 ∧ se k = (celR ch len (i + 1)).2.2.2 ∧ ti k = asgV ch len (decide (ch i = 100)) (i + 1)) ∧ (ch i = 108 → fi k = (rdR ch len 1 3 (i + 1)).2.1) ∧ (ch i = 116 → fi k = (rdR ch len 0 255 (i + 1)).2.1)
def smP (m : Nat) (le fi se : Nat → Nat) (ti : Nat → Int32) (le' fi' se' : Nat → Nat) (ti' : Nat → Int32) : Prop := ∀ j, j < m → le' j = le j ∧ fi' j = fi j ∧ se' j = se j ∧ ti' j = ti j
theorem ptO_at {ch : Nat → Nat} {len i : Nat} (h : i ≤ len) : (ptO ch len i).2 ≤ len := by
  unfold ptO
  by_cases h0 : i = len
  · rw [if_pos h0]; exact h
  · rw [if_neg h0]
    repeat' split
    all_goals first | exact asgP_le (by omega) | exact (rdR_at (by omega)).1 | (dsimp only; omega)
theorem ptO_lt {ch : Nat → Nat} {len i : Nat} (h : (ptO ch len i).1 = true) : i ≠ len := by
  intro h0
  unfold ptO at h
  rw [if_pos h0] at h
  cases h
theorem celR_ge {ch : Nat → Nat} {len i : Nat} (h : i ≤ len) : i ≤ (celR ch len i).2.1 := by
  have h1 := rdR_at (ch := ch) (lo := 0) (hi := 7) h
  have h2 := sgA_le (ch := ch) (c := 46) h1.1
  have h3 := rdR_at (ch := ch) (lo := 0) (hi := 7) h2.1
  have h4 := sgA_le (ch := ch) (c := 61) h3.1
  unfold celR
  repeat' split
  all_goals (dsimp only; omega)
theorem asgP_ge {ch : Nat → Nat} {len : Nat} {b : Bool} {i : Nat} (h : i ≤ len) : i ≤ asgP ch len b i := by
  have h1 := celR_ge (ch := ch) h
  have h2 := asgI_le (ch := ch) (b := b) (celR_le (ch := ch) h)
  have h3 := rdR_at (ch := ch) (lo := asgL (asgM ch len b (celR ch len i).2.1)) (hi := 255) h2.1
  unfold asgP asgN
  split <;> omega
theorem ptO_ge {ch : Nat → Nat} {len i : Nat} (h : i ≤ len) (hg : (ptO ch len i).1 = true) : i + 1 ≤ (ptO ch len i).2 := by
  have h0 := ptO_lt hg
  unfold ptO at hg ⊢
  rw [if_neg h0] at hg ⊢
  by_cases h1 : ch i = 100
  · rw [if_pos h1]; exact asgP_ge (by omega)
  rw [if_neg h1] at hg ⊢
  by_cases h2 : ch i = 105
  · rw [if_pos h2]; exact Nat.le_refl _
  rw [if_neg h2] at hg ⊢
  by_cases h3 : ch i = 108
  · rw [if_pos h3]; exact (rdR_at (by omega)).2.2
  rw [if_neg h3] at hg ⊢
  by_cases h4 : ch i = 109
  · rw [if_pos h4]; exact Nat.le_refl _
  rw [if_neg h4] at hg ⊢
  by_cases h5 : ch i = 112
  · rw [if_pos h5]; exact asgP_ge (by omega)
  rw [if_neg h5] at hg ⊢
  by_cases h6 : ch i = 114
  · rw [if_pos h6]; exact Nat.le_refl _
  rw [if_neg h6] at hg ⊢
  by_cases h7 : ch i = 116
  · rw [if_pos h7]; exact (rdR_at (by omega)).2.2
  rw [if_neg h7] at hg
  cases hg
theorem pd_as {ch : Nat → Nat} {len i k : Nat} {le fi se fi' se' : Nat → Nat} {ti ti' : Nat → Int32} {b : Bool} (hl : i ≠ len) (hb : ch i = 100 ∧ b = true ∨ ch i = 112 ∧ b = false) (hf : asgO ch len b (i + 1) = true → fi' = va_up fi k (celR ch len (i + 1)).2.2.1 ∧ se' = va_up se k (celR ch len (i + 1)).2.2.2 ∧ ti' = upd ti k (asgV ch len b (i + 1))) : (ptO ch len i).1 = true → ptD ch len i k (va_up le k (ch i)) fi' se' ti' ∧ smP k le fi se ti (va_up le k (ch i)) fi' se' ti' := by
  intro hg
  have hg' : asgO ch len b (i + 1) = true := by
    have := hg
    unfold ptO at this
    rw [if_neg hl] at this
    rcases hb with ⟨c, e⟩ | ⟨c, e⟩
    · rw [if_pos c] at this; rw [e]; exact this
    · rw [if_neg (by omega), if_neg (by omega), if_neg (by omega), if_neg (by omega), if_pos c] at this; rw [e]; exact this
  obtain ⟨e1, e2, e3⟩ := hf hg'
  have hd : decide (ch i = 100) = b := by
    rcases hb with ⟨c, e⟩ | ⟨c, e⟩
    · rw [e]; exact decide_eq_true c
    · rw [e]; exact decide_eq_false (by omega)
  rw [e1, e2, e3]
  refine ⟨⟨hg, va_up_self _ _ _, fun _ => ⟨va_up_self _ _ _, va_up_self _ _ _, by rw [hd]; simp [upd]⟩, fun c => by omega, fun c => by omega⟩, fun j hj => ⟨va_up_ne _ _ (by omega), va_up_ne _ _ (by omega), va_up_ne _ _ (by omega), ?_⟩⟩
  simp [upd, Nat.ne_of_lt hj]
theorem pd_sg {ch : Nat → Nat} {len i k lo hi : Nat} {le fi se fi' : Nat → Nat} {ti : Nat → Int32} (hl : i ≠ len) (hb : ch i = 108 ∧ lo = 1 ∧ hi = 3 ∨ ch i = 116 ∧ lo = 0 ∧ hi = 255) (hf : (rdR ch len lo hi (i + 1)).1 = true → fi' = va_up fi k (rdR ch len lo hi (i + 1)).2.1) : (ptO ch len i).1 = true → ptD ch len i k (va_up le k (ch i)) fi' se ti ∧ smP k le fi se ti (va_up le k (ch i)) fi' se ti := by
  intro hg
  have hg' : (rdR ch len lo hi (i + 1)).1 = true := by
    have := hg
    unfold ptO at this
    rw [if_neg hl] at this
    rcases hb with ⟨c, e, e'⟩ | ⟨c, e, e'⟩
    · rw [if_neg (by omega), if_neg (by omega), if_pos c] at this; rw [e, e']; exact this
    · rw [if_neg (by omega), if_neg (by omega), if_neg (by omega), if_neg (by omega), if_neg (by omega), if_neg (by omega), if_pos c] at this; rw [e, e']; exact this
  have e1 := hf hg'
  rw [e1]
  refine ⟨⟨hg, va_up_self _ _ _, fun c => by omega, fun c => ?_, fun c => ?_⟩, fun j hj => ⟨va_up_ne _ _ (by omega), va_up_ne _ _ (by omega), rfl, rfl⟩⟩
  · rcases hb with ⟨_, e, e'⟩ | ⟨c', _, _⟩
    · rw [e, e']; exact va_up_self _ _ _
    · omega
  · rcases hb with ⟨c', _, _⟩ | ⟨_, e, e'⟩
    · omega
    · rw [e, e']; exact va_up_self _ _ _
theorem pd_no {ch : Nat → Nat} {len i k : Nat} {le fi se : Nat → Nat} {ti : Nat → Int32} (hb : ch i ≠ 100 ∧ ch i ≠ 112 ∧ ch i ≠ 108 ∧ ch i ≠ 116) : (ptO ch len i).1 = true → ptD ch len i k (va_up le k (ch i)) fi se ti ∧ smP k le fi se ti (va_up le k (ch i)) fi se ti := by
  intro hg
  refine ⟨⟨hg, va_up_self _ _ _, fun c => by omega, fun c => by omega, fun c => by omega⟩, fun j hj => ⟨va_up_ne _ _ (by omega), rfl, rfl, rfl⟩⟩
def rm_X9_assigns : Room := ({ frames := 3, cells := 0, slots := 0, locals := 72 } : Room)
set_option maxHeartbeats 400000 in
set_option maxRecDepth 100000 in
theorem t_X9_assigns (l : Launch) (G : GG) (b0 sz : Nat) (h : Nat) (ad : Nat → Nat) (thr sts : Nat) (hs : Bool) (len at_ num many : Nat) (ch fi se : Nat → Nat) (ti : Nat → Int32) (b : Bool) (hat : at_ ≤ len) (hle : len ≤ 60) (hch : ∀ j, j < len → ch j < 1000) (hmy : many ≤ 30) : CT l yX9_assigns cX9_assigns 3 (some FieldType.boolean) (rm_X9_assigns) G b0 [.ref h, .int (bI b)] [oM h ad thr sts hs len at_ num many, aI G (ad 4) 60 (nF ch), aI G (ad 12) 31 (nF fi), aI G (ad 13) 31 (nF se), aI G (ad 14) 31 ti] sz (Ri G (fun (r_ : Int32) (u : Nat × (Nat → Nat) × (Nat → Nat) × (Nat → Int32)) => r_ = bI (asgO ch len b at_) ∧ (asgO ch len b at_ = true → u.2.1 = va_up fi many (celR ch len at_).2.2.1 ∧ u.2.2.1 = va_up se many (celR ch len at_).2.2.2 ∧ u.2.2.2 = upd ti many (asgV ch len b at_))) (fun (u : Nat × (Nat → Nat) × (Nat → Nat) × (Nat → Int32)) => [oM h ad thr sts hs len (asgP ch len b at_) u.1 many, aI G (ad 4) 60 (nF ch), aI G (ad 12) 31 (nF u.2.1), aI G (ad 13) 31 (nF u.2.2.1), aI G (ad 14) 31 u.2.2.2])) := by
  refine CT.go (by decide) (Nat.le_of_ble_eq_true rfl) (fun p e s m below meth c A ls AR QQ hx hb hr hlk hml hown hnm hts hE hA hAb hsz hP hD hS hl hQQ => ?_)
  have hK := hE.1
  have hown : s.vm.findClass RX9 = some m.cls := hown
  have hl : lv_has ls 3 [(0, .ref h), (1, .int (bI b))] := hl
  clear hsz
  have hq1 := celR_le (ch := ch) hat
  have hq2 := (asgI_le (ch := ch) (b := b) hq1).1
  have hq4 : asgL (asgM ch len b (celR ch len at_).2.1) ≤ 1 := by unfold asgL; split <;> omega
  have hq3 := asgN_at (ch := ch) (b := b) hat
  refine lv_aload_n hx hb dX9_assigns_0 rfl (lv_at hl 0 rfl) ?_
  refine fin_i (ws' := (fun (u_1 : Nat × (Nat → Nat) × (Nat → Nat)) => [oM h ad thr sts hs len ((celR ch len at_).2.1) u_1.1 many, aI G (ad 4) 60 (nF ch), aI G (ad 12) 31 (nF u_1.2.1), aI G (ad 13) 31 (nF u_1.2.2), aI G (ad 14) 31 ti])) hA hS hP hD [0, 1, 2, 3] rfl [(true, 0), (true, 1), (true, 2), (true, 3), (false, 4)] (fun _ => rfl) (by decide) (run_V (As := []) (rest := []) (n9 := 0) hx hb hml hown hts hE hAb hl.1 hS hP hD [0, 1, 2, 3] rfl (by decide) (t_X9_cell l G b0 _ h ad thr sts hs len at_ num many ch fi se (by omega) (by omega) (by exact hch) (by omega)) (lw_V q2081 q2083 qs98 q129 q2084) 0 rfl rfl ⟨rfl, by decide, by decide, by decide +kernel⟩ ⟨Nat.le_of_ble_eq_true rfl, Nat.le_of_ble_eq_true rfl⟩ ⟨by first | exact Nat.le_of_ble_eq_true rfl | (simp only [rm_X9_assigns, rm_X9_cell]; omega), by first | exact Nat.le_of_ble_eq_true rfl | (simp only [rm_X9_assigns, rm_X9_cell]; omega)⟩ dX9_assigns_1 (Nat.le_of_ble_eq_true rfl) rfl rfl) (fun r_1 u_1 H locs h_1 hP hD hS => ?_)
  have hP : va_P G.1 vwCl [oM h ad thr sts hs len ((celR ch len at_).2.1) u_1.1 many, aI G (ad 4) 60 (nF ch), aI G (ad 12) 31 (nF u_1.2.1), aI G (ad 13) 31 (nF u_1.2.2), aI G (ad 14) 31 ti] _ := hP
  have hD : va_D A [oM h ad thr sts hs len ((celR ch len at_).2.1) u_1.1 many, aI G (ad 4) 60 (nF ch), aI G (ad 12) 31 (nF u_1.2.1), aI G (ad 13) 31 (nF u_1.2.2), aI G (ad 14) 31 ti] := hD
  obtain ⟨h_1, f_1⟩ := h_1
  have h_1 : r_1 = (bI ((celR ch len at_).1)) := h_1
  try rw [h_1] at f_1
  have f_1 : ((celR ch len at_).1 = true → u_1.2.1 = va_up fi many (celR ch len at_).2.2.1 ∧ u_1.2.2 = va_up se many (celR ch len at_).2.2.2) := f_1
  rw [h_1]
  refine B_if_ne (tgt := 9) hx hb dX9_assigns_4 (by decide) (fun c_4 => ?_) (fun c_4 => ?_)
  · skip
    refine lv_iload_n hx hb dX9_assigns_9 rfl (lv_at hl 1 rfl) ?_
    have K_10 : ∀ (v_2 : Bool) (_ : v_2 = if b = true then (if (sgB ch len ((celR ch len at_).2.1) 45) = true then true else false) else false) (v_3 : Nat) (_ : v_3 = if b = true then (sgA ch len ((celR ch len at_).2.1) 45) else ((celR ch len at_).2.1)) (H : Heap) (locs : List Loc) (ls : Array Slot), va_P G.1 vwCl [oM h ad thr sts hs len v_3 u_1.1 many, aI G (ad 4) 60 (nF ch), aI G (ad 12) 31 (nF u_1.2.1), aI G (ad 13) 31 (nF u_1.2.2), aI G (ad 14) 31 ti] H → va_D A [oM h ad thr sts hs len v_3 u_1.1 many, aI G (ad 4) 60 (nF ch), aI G (ad 12) 31 (nF u_1.2.1), aI G (ad 13) 31 (nF u_1.2.2), aI G (ad 14) 31 ti] → va_S A s.heap H locs → lv_has ls 3 [(0, .ref h), (1, .int (bI b))] → W p l e (rm_X9_assigns) s m AR below meth c H locs 0 0 QQ (F0 m 27 ls [.int (bI v_2)]) := by
      intro v_2 e_v_2 v_3 e_v_3 H locs ls hP hD hS hl
      subst e_v_2
      subst e_v_3
      refine lv_istore_n (lv' := [(2, .int (bI (if b = true then (if (sgB ch len ((celR ch len at_).2.1) 45) = true then true else false) else false))), (0, .ref h), (1, .int (bI b))]) hx hb dX9_assigns_27 rfl hl (by decide) rfl (fun ls hl => ?_)
      have hl : lv_has ls 3 [(2, .int (bI (asgM ch len b (celR ch len at_).2.1))), (0, .ref h), (1, .int (bI b))] := hl
      have hP : va_P G.1 vwCl [oM h ad thr sts hs len (asgI ch len b (celR ch len at_).2.1) u_1.1 many, aI G (ad 4) 60 (nF ch), aI G (ad 12) 31 (nF u_1.2.1), aI G (ad 13) 31 (nF u_1.2.2), aI G (ad 14) 31 ti] _ := hP
      have hD : va_D A [oM h ad thr sts hs len (asgI ch len b (celR ch len at_).2.1) u_1.1 many, aI G (ad 4) 60 (nF ch), aI G (ad 12) 31 (nF u_1.2.1), aI G (ad 13) 31 (nF u_1.2.2), aI G (ad 14) 31 ti] := hD
      refine lv_aload_n hx hb dX9_assigns_28 rfl (lv_at hl 1 rfl) ?_
      refine lv_iload_n hx hb dX9_assigns_29 rfl (lv_at hl 0 rfl) ?_
      have K_30 : ∀ (v_4 : Nat) (_ : v_4 = if (asgM ch len b (celR ch len at_).2.1) = true then 1 else 0) (H : Heap) (locs : List Loc) (ls : Array Slot), va_P G.1 vwCl [oM h ad thr sts hs len (asgI ch len b (celR ch len at_).2.1) u_1.1 many, aI G (ad 4) 60 (nF ch), aI G (ad 12) 31 (nF u_1.2.1), aI G (ad 13) 31 (nF u_1.2.2), aI G (ad 14) 31 ti] H → va_D A [oM h ad thr sts hs len (asgI ch len b (celR ch len at_).2.1) u_1.1 many, aI G (ad 4) 60 (nF ch), aI G (ad 12) 31 (nF u_1.2.1), aI G (ad 13) 31 (nF u_1.2.2), aI G (ad 14) 31 ti] → va_S A s.heap H locs → lv_has ls 3 [(2, .int (bI (asgM ch len b (celR ch len at_).2.1))), (0, .ref h), (1, .int (bI b))] → W p l e (rm_X9_assigns) s m AR below meth c H locs 0 0 QQ (F0 m 38 ls [.int (nI v_4), .ref h]) := by
        intro v_4 e_v_4 H locs ls hP hD hS hl
        subst e_v_4
        refine W.eq (g2 := F0 m 38 ls [.int (nI (asgL (asgM ch len b (celR ch len at_).2.1))), .ref h]) rfl ?_
        refine lv_sipush (v := nI 255) hx hb dX9_assigns_38 (by decide) ?_
        refine fin_i (ws' := (fun (_ : Unit) => [oM h ad thr sts hs len ((rdR ch len (asgL (asgM ch len b (celR ch len at_).2.1)) 255 (asgI ch len b (celR ch len at_).2.1)).2.2) ((rdR ch len (asgL (asgM ch len b (celR ch len at_).2.1)) 255 (asgI ch len b (celR ch len at_).2.1)).2.1) many, aI G (ad 4) 60 (nF ch), aI G (ad 12) 31 (nF u_1.2.1), aI G (ad 13) 31 (nF u_1.2.2), aI G (ad 14) 31 ti])) hA hS hP hD [0, 1] rfl [(true, 0), (true, 1), (false, 2), (false, 3), (false, 4)] (fun _ => rfl) (by decide) (run_V (As := [.int (nI (asgL (asgM ch len b (celR ch len at_).2.1))), .int (nI 255)]) (rest := []) (n9 := 2) hx hb hml hown hts hE hAb hl.1 hS hP hD [0, 1] rfl (by decide) (t_X9_reads l G b0 _ h ad thr sts hs len (asgI ch len b (celR ch len at_).2.1) u_1.1 many ch (asgL (asgM ch len b (celR ch len at_).2.1)) 255 (by omega) (by omega) (by exact hch) (by omega) (by omega)) (lw_V q2085 q2087 qs99 q129 q2088) 0 rfl rfl ⟨rfl, by decide, by decide, by decide +kernel⟩ ⟨Nat.le_of_ble_eq_true rfl, Nat.le_of_ble_eq_true rfl⟩ ⟨by first | exact Nat.le_of_ble_eq_true rfl | (simp only [rm_X9_assigns, rm_X9_reads]; omega), by first | exact Nat.le_of_ble_eq_true rfl | (simp only [rm_X9_assigns, rm_X9_reads]; omega)⟩ dX9_assigns_41 (Nat.le_of_ble_eq_true rfl) rfl rfl) (fun r_5 u_5 H locs h_5 hP hD hS => ?_)
        have hP : va_P G.1 vwCl [oM h ad thr sts hs len ((rdR ch len (asgL (asgM ch len b (celR ch len at_).2.1)) 255 (asgI ch len b (celR ch len at_).2.1)).2.2) ((rdR ch len (asgL (asgM ch len b (celR ch len at_).2.1)) 255 (asgI ch len b (celR ch len at_).2.1)).2.1) many, aI G (ad 4) 60 (nF ch), aI G (ad 12) 31 (nF u_1.2.1), aI G (ad 13) 31 (nF u_1.2.2), aI G (ad 14) 31 ti] _ := hP
        have hD : va_D A [oM h ad thr sts hs len ((rdR ch len (asgL (asgM ch len b (celR ch len at_).2.1)) 255 (asgI ch len b (celR ch len at_).2.1)).2.2) ((rdR ch len (asgL (asgM ch len b (celR ch len at_).2.1)) 255 (asgI ch len b (celR ch len at_).2.1)).2.1) many, aI G (ad 4) 60 (nF ch), aI G (ad 12) 31 (nF u_1.2.1), aI G (ad 13) 31 (nF u_1.2.2), aI G (ad 14) 31 ti] := hD
        have h_5 : r_5 = (bI ((rdR ch len (asgL (asgM ch len b (celR ch len at_).2.1)) 255 (asgI ch len b (celR ch len at_).2.1)).1)) := h_5
        rw [h_5]
        refine W.eq (g2 := F0 m 44 ls [.int (bI ((asgN ch len b at_).1))]) rfl ?_
        have hP : va_P G.1 vwCl [oM h ad thr sts hs len ((asgN ch len b at_).2.2) ((rdR ch len (asgL (asgM ch len b (celR ch len at_).2.1)) 255 (asgI ch len b (celR ch len at_).2.1)).2.1) many, aI G (ad 4) 60 (nF ch), aI G (ad 12) 31 (nF u_1.2.1), aI G (ad 13) 31 (nF u_1.2.2), aI G (ad 14) 31 ti] _ := hP
        have hD : va_D A [oM h ad thr sts hs len ((asgN ch len b at_).2.2) ((rdR ch len (asgL (asgM ch len b (celR ch len at_).2.1)) 255 (asgI ch len b (celR ch len at_).2.1)).2.1) many, aI G (ad 4) 60 (nF ch), aI G (ad 12) 31 (nF u_1.2.1), aI G (ad 13) 31 (nF u_1.2.2), aI G (ad 14) 31 ti] := hD
        have hP : va_P G.1 vwCl [oM h ad thr sts hs len ((asgN ch len b at_).2.2) ((asgN ch len b at_).2.1) many, aI G (ad 4) 60 (nF ch), aI G (ad 12) 31 (nF u_1.2.1), aI G (ad 13) 31 (nF u_1.2.2), aI G (ad 14) 31 ti] _ := hP
        have hD : va_D A [oM h ad thr sts hs len ((asgN ch len b at_).2.2) ((asgN ch len b at_).2.1) many, aI G (ad 4) 60 (nF ch), aI G (ad 12) 31 (nF u_1.2.1), aI G (ad 13) 31 (nF u_1.2.2), aI G (ad 14) 31 ti] := hD
        refine B_if_ne (tgt := 49) hx hb dX9_assigns_44 (by decide) (fun c_44 => ?_) (fun c_44 => ?_)
        · skip
          refine lv_aload_n hx hb dX9_assigns_49 rfl (lv_at hl 1 rfl) ?_
          refine va_get (D := G.1) (ci := 8) (v := .ref (ad 14)) (C := RX9) (T := TX9) (N := 21) hx hb hts in_X9 hown hK hP 0 rfl rfl 20 (by decide) (hts _ q1687) (fun _ h9 => h9) rfl dX9_assigns_50 ?_
          refine lv_aload_n hx hb dX9_assigns_53 rfl (lv_at hl 1 rfl) ?_
          refine va_get (D := G.1) (ci := 8) (v := .int (nI many)) (C := RX9) (T := TX9) (N := 21) hx hb hts in_X9 hown hK hP 0 rfl rfl 16 (by decide) (hts _ q1683) (fun _ h9 => h9) rfl dX9_assigns_54 ?_
          refine lv_iload_n hx hb dX9_assigns_57 rfl (lv_at hl 0 rfl) ?_
          have K_58 : ∀ (v_6 : Int32) (_ : v_6 = if (asgM ch len b (celR ch len at_).2.1) = true then (-(nI ((asgN ch len b at_).2.1))) else (nI ((asgN ch len b at_).2.1))) (H : Heap) (locs : List Loc) (ls : Array Slot), va_P G.1 vwCl [oM h ad thr sts hs len ((asgN ch len b at_).2.2) ((asgN ch len b at_).2.1) many, aI G (ad 4) 60 (nF ch), aI G (ad 12) 31 (nF u_1.2.1), aI G (ad 13) 31 (nF u_1.2.2), aI G (ad 14) 31 ti] H → va_D A [oM h ad thr sts hs len ((asgN ch len b at_).2.2) ((asgN ch len b at_).2.1) many, aI G (ad 4) 60 (nF ch), aI G (ad 12) 31 (nF u_1.2.1), aI G (ad 13) 31 (nF u_1.2.2), aI G (ad 14) 31 ti] → va_S A s.heap H locs → lv_has ls 3 [(2, .int (bI (asgM ch len b (celR ch len at_).2.1))), (0, .ref h), (1, .int (bI b))] → W p l e (rm_X9_assigns) s m AR below meth c H locs 0 0 QQ (F0 m 73 ls [.int v_6, .int (nI many), .ref (ad 14)]) := by
            intro v_6 e_v_6 H locs ls hP hD hS hl
            subst e_v_6
            refine W.eq (g2 := F0 m 73 ls [.int (asgV ch len b at_), .int (nI many), .ref (ad 14)]) rfl ?_
            refine N_iast (ws' := [oM h ad thr sts hs len ((asgN ch len b at_).2.2) ((asgN ch len b at_).2.1) many, aI G (ad 4) 60 (nF ch), aI G (ad 12) 31 (nF u_1.2.1), aI G (ad 13) 31 (nF u_1.2.2), aI G (ad 14) 31 (upd ti many (asgV ch len b at_))]) hx hb dX9_assigns_73 hK hP hD hS 4 0 rfl rfl (by omega) (by omega) rfl (fun H locs hP hD hS => ?_)
            refine lv_iconst (v := nI 1) hx hb dX9_assigns_74 (by decide) ?_
            have e_7 : ((asgN ch len b at_).2.2) = (asgP ch len b at_) := by first | rfl | (unfold asgP; skip; (try rw [if_pos c_4]); (try rw [if_pos c_44]); (try rw [c_4]); (try rw [c_44]); first | done | rfl)
            rw [e_7] at hP hD
            have hP : va_P G.1 vwCl [oM h ad thr sts hs len (asgP ch len b at_) ((((asgN ch len b at_).2.1, u_1.2.1, u_1.2.2, upd ti many (asgV ch len b at_))).1) many, aI G (ad 4) 60 (nF ch), aI G (ad 12) 31 (nF ((((asgN ch len b at_).2.1, u_1.2.1, u_1.2.2, upd ti many (asgV ch len b at_))).2.1)), aI G (ad 13) 31 (nF ((((asgN ch len b at_).2.1, u_1.2.1, u_1.2.2, upd ti many (asgV ch len b at_))).2.2.1)), aI G (ad 14) 31 ((((asgN ch len b at_).2.1, u_1.2.1, u_1.2.2, upd ti many (asgV ch len b at_))).2.2.2)] _ := hP
            have hD : va_D A [oM h ad thr sts hs len (asgP ch len b at_) ((((asgN ch len b at_).2.1, u_1.2.1, u_1.2.2, upd ti many (asgV ch len b at_))).1) many, aI G (ad 4) 60 (nF ch), aI G (ad 12) 31 (nF ((((asgN ch len b at_).2.1, u_1.2.1, u_1.2.2, upd ti many (asgV ch len b at_))).2.1)), aI G (ad 13) 31 (nF ((((asgN ch len b at_).2.1, u_1.2.1, u_1.2.2, upd ti many (asgV ch len b at_))).2.2.1)), aI G (ad 14) 31 ((((asgN ch len b at_).2.1, u_1.2.1, u_1.2.2, upd ti many (asgV ch len b at_))).2.2.2)] := hD
            rw [hQQ]
            exact rt_z hx hb hr hlk (by first | exact bI_nar _ | rfl) (((asgN ch len b at_).2.1, u_1.2.1, u_1.2.2, upd ti many (asgV ch len b at_))) dX9_assigns_75 hP hD hS (by first | exact Nat.le_of_ble_eq_true rfl | (simp only [rm_X9_assigns]; omega)) (by first | exact Nat.le_of_ble_eq_true rfl | (simp only [rm_X9_assigns]; omega)) ⟨(by first | rfl | (unfold asgO; skip; (try rw [if_pos c_4]); (try rw [if_pos c_44]); (try rw [c_4]); (try rw [c_44]); first | done | rfl)), by intro hf_; unfold asgO at hf_; (try unfold asgO); skip; (try rw [if_pos c_4] at hf_); (try rw [if_pos c_44] at hf_); (try rw [c_4] at hf_); (try rw [c_44] at hf_); skip; (try rw [if_pos c_4]); (try rw [if_pos c_44]); first | done | rfl | exact ⟨rfl, rfl⟩ | exact ⟨rfl, rfl, rfl⟩ | exact absurd hf_ Bool.false_ne_true | (cases hf_; done) | exact ⟨(f_1 c_4).1, (f_1 c_4).2, rfl⟩ | (simp at hf_; done)⟩
          refine B_if_eq (tgt := 69) hx hb dX9_assigns_58 (by decide) (fun c_58 => ?_) (fun c_58 => ?_)
          · skip
            refine lv_aload_n hx hb dX9_assigns_69 rfl (lv_at hl 1 rfl) ?_
            refine va_get (D := G.1) (ci := 8) (v := .int (nI ((asgN ch len b at_).2.1))) (C := RX9) (T := TX9) (N := 21) hx hb hts in_X9 hown hK hP 0 rfl rfl 15 (by decide) (hts _ q1682) (fun _ h9 => h9) rfl dX9_assigns_70 ?_
            exact K_58 (nI ((asgN ch len b at_).2.1)) (by first | rfl | (try rw [if_neg (ne_true_of_eq_false c_58)]) | simp_all) _ _ _ hP hD hS (lv_sub hl [0, 1, 2] rfl)
          · skip
            refine lv_aload_n hx hb dX9_assigns_61 rfl (lv_at hl 1 rfl) ?_
            refine va_get (D := G.1) (ci := 8) (v := .int (nI ((asgN ch len b at_).2.1))) (C := RX9) (T := TX9) (N := 21) hx hb hts in_X9 hown hK hP 0 rfl rfl 15 (by decide) (hts _ q1682) (fun _ h9 => h9) rfl dX9_assigns_62 ?_
            refine lv_ineg hx hb dX9_assigns_65 ?_
            refine lv_goto (tgt := 73) hx hb dX9_assigns_66 (by decide) ?_
            exact K_58 (-(nI ((asgN ch len b at_).2.1))) (by first | rfl | (try rw [if_pos c_58]) | simp_all) _ _ _ hP hD hS (lv_sub hl [0, 1, 2] rfl)
        · skip
          refine lv_iconst (v := nI 0) hx hb dX9_assigns_47 (by decide) ?_
          have e_8 : ((asgN ch len b at_).2.2) = (asgP ch len b at_) := by first | rfl | (unfold asgP; skip; (try rw [if_pos c_4]); (try rw [if_neg (ne_true_of_eq_false c_44)]); (try rw [c_4]); (try rw [c_44]); first | done | rfl)
          rw [e_8] at hP hD
          have hP : va_P G.1 vwCl [oM h ad thr sts hs len (asgP ch len b at_) ((((asgN ch len b at_).2.1, u_1.2.1, u_1.2.2, ti)).1) many, aI G (ad 4) 60 (nF ch), aI G (ad 12) 31 (nF ((((asgN ch len b at_).2.1, u_1.2.1, u_1.2.2, ti)).2.1)), aI G (ad 13) 31 (nF ((((asgN ch len b at_).2.1, u_1.2.1, u_1.2.2, ti)).2.2.1)), aI G (ad 14) 31 ((((asgN ch len b at_).2.1, u_1.2.1, u_1.2.2, ti)).2.2.2)] _ := hP
          have hD : va_D A [oM h ad thr sts hs len (asgP ch len b at_) ((((asgN ch len b at_).2.1, u_1.2.1, u_1.2.2, ti)).1) many, aI G (ad 4) 60 (nF ch), aI G (ad 12) 31 (nF ((((asgN ch len b at_).2.1, u_1.2.1, u_1.2.2, ti)).2.1)), aI G (ad 13) 31 (nF ((((asgN ch len b at_).2.1, u_1.2.1, u_1.2.2, ti)).2.2.1)), aI G (ad 14) 31 ((((asgN ch len b at_).2.1, u_1.2.1, u_1.2.2, ti)).2.2.2)] := hD
          rw [hQQ]
          exact rt_z hx hb hr hlk (by first | exact bI_nar _ | rfl) (((asgN ch len b at_).2.1, u_1.2.1, u_1.2.2, ti)) dX9_assigns_48 hP hD hS (by first | exact Nat.le_of_ble_eq_true rfl | (simp only [rm_X9_assigns]; omega)) (by first | exact Nat.le_of_ble_eq_true rfl | (simp only [rm_X9_assigns]; omega)) ⟨(by first | rfl | (unfold asgO; skip; (try rw [if_pos c_4]); (try rw [if_neg (ne_true_of_eq_false c_44)]); (try rw [c_4]); (try rw [c_44]); first | done | rfl)), by intro hf_; unfold asgO at hf_; (try unfold asgO); skip; (try rw [if_pos c_4] at hf_); (try rw [if_neg (ne_true_of_eq_false c_44)] at hf_); (try rw [c_4] at hf_); (try rw [c_44] at hf_); skip; (try rw [if_pos c_4]); (try rw [if_neg (ne_true_of_eq_false c_44)]); first | done | rfl | exact ⟨rfl, rfl⟩ | exact ⟨rfl, rfl, rfl⟩ | exact absurd hf_ Bool.false_ne_true | (cases hf_; done) | exact ⟨(f_1 c_4).1, (f_1 c_4).2, rfl⟩ | (simp at hf_; done)⟩
      refine B_if_eq (tgt := 37) hx hb dX9_assigns_30 (by decide) (fun c_30 => ?_) (fun c_30 => ?_)
      · skip
        refine lv_iconst (v := nI 0) hx hb dX9_assigns_37 (by decide) ?_
        exact K_30 0 (by first | rfl | (try rw [if_neg (ne_true_of_eq_false c_30)]) | simp_all) _ _ _ hP hD hS (lv_sub hl [0, 1, 2] rfl)
      · skip
        refine lv_iconst (v := nI 1) hx hb dX9_assigns_33 (by decide) ?_
        refine lv_goto (tgt := 38) hx hb dX9_assigns_34 (by decide) ?_
        exact K_30 1 (by first | rfl | (try rw [if_pos c_30]) | simp_all) _ _ _ hP hD hS (lv_sub hl [0, 1, 2] rfl)
    refine B_if_eq (tgt := 26) hx hb dX9_assigns_10 (by decide) (fun c_10 => ?_) (fun c_10 => ?_)
    · skip
      refine lv_iconst (v := nI 0) hx hb dX9_assigns_26 (by decide) ?_
      exact K_10 false (by first | rfl | (try rw [if_neg (ne_true_of_eq_false c_10)]) | simp_all) ((celR ch len at_).2.1) (by first | rfl | (try rw [if_neg (ne_true_of_eq_false c_10)]) | simp_all) _ _ _ hP hD hS (lv_sub hl [0, 1] rfl)
    · skip
      refine lv_aload_n hx hb dX9_assigns_13 rfl (lv_at hl 0 rfl) ?_
      refine lv_bipush (v := nI 45) hx hb dX9_assigns_14 (by decide) ?_
      refine fin_i (ws' := (fun (_ : Unit) => [oM h ad thr sts hs len (sgA ch len ((celR ch len at_).2.1) 45) u_1.1 many, aI G (ad 4) 60 (nF ch), aI G (ad 12) 31 (nF u_1.2.1), aI G (ad 13) 31 (nF u_1.2.2), aI G (ad 14) 31 ti])) hA hS hP hD [0, 1] rfl [(true, 0), (true, 1), (false, 2), (false, 3), (false, 4)] (fun _ => rfl) (by decide) (run_V (As := [.int (nI 45)]) (rest := []) (n9 := 1) hx hb hml hown hts hE hAb hl.1 hS hP hD [0, 1] rfl (by decide) (t_X9_sign l G b0 _ h ad thr sts hs len ((celR ch len at_).2.1) u_1.1 many ch 45 (by omega) (by omega) (by exact hch) (by omega)) (lw_V q2089 q2091 qs100 q129 q2092) 0 rfl rfl ⟨rfl, by decide, by decide, by decide +kernel⟩ ⟨Nat.le_of_ble_eq_true rfl, Nat.le_of_ble_eq_true rfl⟩ ⟨by first | exact Nat.le_of_ble_eq_true rfl | (simp only [rm_X9_assigns, rm_X9_sign]; omega), by first | exact Nat.le_of_ble_eq_true rfl | (simp only [rm_X9_assigns, rm_X9_sign]; omega)⟩ dX9_assigns_16 (Nat.le_of_ble_eq_true rfl) rfl rfl) (fun r_9 u_9 H locs h_9 hP hD hS => ?_)
      have hP : va_P G.1 vwCl [oM h ad thr sts hs len (sgA ch len ((celR ch len at_).2.1) 45) u_1.1 many, aI G (ad 4) 60 (nF ch), aI G (ad 12) 31 (nF u_1.2.1), aI G (ad 13) 31 (nF u_1.2.2), aI G (ad 14) 31 ti] _ := hP
      have hD : va_D A [oM h ad thr sts hs len (sgA ch len ((celR ch len at_).2.1) 45) u_1.1 many, aI G (ad 4) 60 (nF ch), aI G (ad 12) 31 (nF u_1.2.1), aI G (ad 13) 31 (nF u_1.2.2), aI G (ad 14) 31 ti] := hD
      have h_9 : r_9 = (bI (sgB ch len ((celR ch len at_).2.1) 45)) := h_9
      rw [h_9]
      refine B_if_eq (tgt := 26) hx hb dX9_assigns_19 (by decide) (fun c_19 => ?_) (fun c_19 => ?_)
      · skip
        refine lv_iconst (v := nI 0) hx hb dX9_assigns_26 (by decide) ?_
        exact K_10 false (by first | rfl | (try rw [if_pos c_10]; try rw [if_neg (ne_true_of_eq_false c_19)]) | simp_all) (sgA ch len ((celR ch len at_).2.1) 45) (by first | rfl | (try rw [if_pos c_10]; try rw [if_neg (ne_true_of_eq_false c_19)]) | simp_all) _ _ _ hP hD hS (lv_sub hl [0, 1] rfl)
      · skip
        refine lv_iconst (v := nI 1) hx hb dX9_assigns_22 (by decide) ?_
        refine lv_goto (tgt := 27) hx hb dX9_assigns_23 (by decide) ?_
        exact K_10 true (by first | rfl | (try rw [if_pos c_10]; try rw [if_pos c_19]) | simp_all) (sgA ch len ((celR ch len at_).2.1) 45) (by first | rfl | (try rw [if_pos c_10]; try rw [if_pos c_19]) | simp_all) _ _ _ hP hD hS (lv_sub hl [0, 1] rfl)
  · skip
    refine lv_iconst (v := nI 0) hx hb dX9_assigns_7 (by decide) ?_
    have e_10 : ((celR ch len at_).2.1) = (asgP ch len b at_) := by first | rfl | (unfold asgP; skip; (try rw [if_neg (ne_true_of_eq_false c_4)]); (try rw [c_4]); first | done | rfl)
    rw [e_10] at hP hD
    have hP : va_P G.1 vwCl [oM h ad thr sts hs len (asgP ch len b at_) (((u_1.1, u_1.2.1, u_1.2.2, ti)).1) many, aI G (ad 4) 60 (nF ch), aI G (ad 12) 31 (nF (((u_1.1, u_1.2.1, u_1.2.2, ti)).2.1)), aI G (ad 13) 31 (nF (((u_1.1, u_1.2.1, u_1.2.2, ti)).2.2.1)), aI G (ad 14) 31 (((u_1.1, u_1.2.1, u_1.2.2, ti)).2.2.2)] _ := hP
    have hD : va_D A [oM h ad thr sts hs len (asgP ch len b at_) (((u_1.1, u_1.2.1, u_1.2.2, ti)).1) many, aI G (ad 4) 60 (nF ch), aI G (ad 12) 31 (nF (((u_1.1, u_1.2.1, u_1.2.2, ti)).2.1)), aI G (ad 13) 31 (nF (((u_1.1, u_1.2.1, u_1.2.2, ti)).2.2.1)), aI G (ad 14) 31 (((u_1.1, u_1.2.1, u_1.2.2, ti)).2.2.2)] := hD
    rw [hQQ]
    exact rt_z hx hb hr hlk (by first | exact bI_nar _ | rfl) ((u_1.1, u_1.2.1, u_1.2.2, ti)) dX9_assigns_8 hP hD hS (by first | exact Nat.le_of_ble_eq_true rfl | (simp only [rm_X9_assigns]; omega)) (by first | exact Nat.le_of_ble_eq_true rfl | (simp only [rm_X9_assigns]; omega)) ⟨(by first | rfl | (unfold asgO; skip; (try rw [if_neg (ne_true_of_eq_false c_4)]); (try rw [c_4]); first | done | rfl)), by intro hf_; unfold asgO at hf_; (try unfold asgO); skip; (try rw [if_neg (ne_true_of_eq_false c_4)] at hf_); (try rw [c_4] at hf_); skip; (try rw [if_neg (ne_true_of_eq_false c_4)]); first | done | rfl | exact ⟨rfl, rfl⟩ | exact ⟨rfl, rfl, rfl⟩ | exact absurd hf_ Bool.false_ne_true | (cases hf_; done) | exact ⟨(f_1 c_4).1, (f_1 c_4).2, rfl⟩ | (simp at hf_; done)⟩
def rm_X9_single : Room := ({ frames := 2, cells := 0, slots := 0, locals := 47 } : Room)
set_option maxHeartbeats 400000 in
set_option maxRecDepth 100000 in
theorem t_X9_single (l : Launch) (G : GG) (b0 sz : Nat) (h : Nat) (ad : Nat → Nat) (thr sts : Nat) (hs : Bool) (len at_ num many : Nat) (ch fi : Nat → Nat) (lo hi_ : Nat) (hat : at_ ≤ len) (hle : len ≤ 60) (hch : ∀ j, j < len → ch j < 1000) (hlo : lo ≤ 1) (hhi : hi_ ≤ 255) (hmy : many ≤ 30) : CT l yX9_single cX9_single 3 (some FieldType.boolean) (rm_X9_single) G b0 [.ref h, .int (nI lo), .int (nI hi_)] [oM h ad thr sts hs len at_ num many, aI G (ad 4) 60 (nF ch), aI G (ad 12) 31 (nF fi)] sz (Ri G (fun (r_ : Int32) (u : Nat → Nat) => r_ = bI ((rdR ch len lo hi_ at_).1) ∧ ((rdR ch len lo hi_ at_).1 = true → u = va_up fi many (rdR ch len lo hi_ at_).2.1)) (fun (u : Nat → Nat) => [oM h ad thr sts hs len ((rdR ch len lo hi_ at_).2.2) ((rdR ch len lo hi_ at_).2.1) many, aI G (ad 4) 60 (nF ch), aI G (ad 12) 31 (nF u)])) := by
  refine CT.go (by decide) (Nat.le_of_ble_eq_true rfl) (fun p e s m below meth c A ls AR QQ hx hb hr hlk hml hown hnm hts hE hA hAb hsz hP hD hS hl hQQ => ?_)
  have hK := hE.1
  have hown : s.vm.findClass RX9 = some m.cls := hown
  have hl : lv_has ls 3 [(0, .ref h), (1, .int (nI lo)), (2, .int (nI hi_))] := hl
  clear hsz
  have hq1 := rdR_at (ch := ch) (lo := lo) (hi := hi_) hat
  refine lv_aload_n hx hb dX9_single_0 rfl (lv_at hl 0 rfl) ?_
  refine lv_iload_n hx hb dX9_single_1 rfl (lv_at hl 1 rfl) ?_
  refine lv_iload_n hx hb dX9_single_2 rfl (lv_at hl 2 rfl) ?_
  refine fin_i (ws' := (fun (_ : Unit) => [oM h ad thr sts hs len ((rdR ch len lo hi_ at_).2.2) ((rdR ch len lo hi_ at_).2.1) many, aI G (ad 4) 60 (nF ch), aI G (ad 12) 31 (nF fi)])) hA hS hP hD [0, 1] rfl [(true, 0), (true, 1), (false, 2)] (fun _ => rfl) (by decide) (run_V (As := [.int (nI lo), .int (nI hi_)]) (rest := []) (n9 := 2) hx hb hml hown hts hE hAb hl.1 hS hP hD [0, 1] rfl (by decide) (t_X9_reads l G b0 _ h ad thr sts hs len at_ num many ch lo hi_ (by omega) (by omega) (by exact hch) (by omega) (by omega)) (lw_V q2085 q2087 qs99 q129 q2088) 0 rfl rfl ⟨rfl, by decide, by decide, by decide +kernel⟩ ⟨Nat.le_of_ble_eq_true rfl, Nat.le_of_ble_eq_true rfl⟩ ⟨by first | exact Nat.le_of_ble_eq_true rfl | (simp only [rm_X9_single, rm_X9_reads]; omega), by first | exact Nat.le_of_ble_eq_true rfl | (simp only [rm_X9_single, rm_X9_reads]; omega)⟩ dX9_single_3 (Nat.le_of_ble_eq_true rfl) rfl rfl) (fun r_1 u_1 H locs h_1 hP hD hS => ?_)
  have hP : va_P G.1 vwCl [oM h ad thr sts hs len ((rdR ch len lo hi_ at_).2.2) ((rdR ch len lo hi_ at_).2.1) many, aI G (ad 4) 60 (nF ch), aI G (ad 12) 31 (nF fi)] _ := hP
  have hD : va_D A [oM h ad thr sts hs len ((rdR ch len lo hi_ at_).2.2) ((rdR ch len lo hi_ at_).2.1) many, aI G (ad 4) 60 (nF ch), aI G (ad 12) 31 (nF fi)] := hD
  have h_1 : r_1 = (bI ((rdR ch len lo hi_ at_).1)) := h_1
  rw [h_1]
  refine B_if_ne (tgt := 11) hx hb dX9_single_6 (by decide) (fun c_6 => ?_) (fun c_6 => ?_)
  · skip
    refine lv_aload_n hx hb dX9_single_11 rfl (lv_at hl 0 rfl) ?_
    refine va_get (D := G.1) (ci := 8) (v := .ref (ad 12)) (C := RX9) (T := TX9) (N := 21) hx hb hts in_X9 hown hK hP 0 rfl rfl 18 (by decide) (hts _ q1685) (fun _ h9 => h9) rfl dX9_single_12 ?_
    refine lv_aload_n hx hb dX9_single_15 rfl (lv_at hl 0 rfl) ?_
    refine va_get (D := G.1) (ci := 8) (v := .int (nI many)) (C := RX9) (T := TX9) (N := 21) hx hb hts in_X9 hown hK hP 0 rfl rfl 16 (by decide) (hts _ q1683) (fun _ h9 => h9) rfl dX9_single_16 ?_
    refine lv_aload_n hx hb dX9_single_19 rfl (lv_at hl 0 rfl) ?_
    refine va_get (D := G.1) (ci := 8) (v := .int (nI ((rdR ch len lo hi_ at_).2.1))) (C := RX9) (T := TX9) (N := 21) hx hb hts in_X9 hown hK hP 0 rfl rfl 15 (by decide) (hts _ q1682) (fun _ h9 => h9) rfl dX9_single_20 ?_
    refine N_iast (ws' := [oM h ad thr sts hs len ((rdR ch len lo hi_ at_).2.2) ((rdR ch len lo hi_ at_).2.1) many, aI G (ad 4) 60 (nF ch), aI G (ad 12) 31 (nF (va_up fi many ((rdR ch len lo hi_ at_).2.1)))]) hx hb dX9_single_23 hK hP hD hS 2 0 rfl rfl (by omega) (by omega) (by rw [nF_upd]; rfl) (fun H locs hP hD hS => ?_)
    refine lv_iconst (v := nI 1) hx hb dX9_single_24 (by decide) ?_
    rw [hQQ]
    exact rt_z hx hb hr hlk (by first | exact bI_nar _ | rfl) (va_up fi many ((rdR ch len lo hi_ at_).2.1)) dX9_single_25 hP hD hS (by first | exact Nat.le_of_ble_eq_true rfl | (simp only [rm_X9_single]; omega)) (by first | exact Nat.le_of_ble_eq_true rfl | (simp only [rm_X9_single]; omega)) ⟨(by skip; (try rw [if_pos c_6]); (try rw [c_6]); first | done | rfl), by first | exact fun _ => rfl | (intro hf_; rw [c_6] at hf_; cases hf_)⟩
  · skip
    refine lv_iconst (v := nI 0) hx hb dX9_single_9 (by decide) ?_
    rw [hQQ]
    exact rt_z hx hb hr hlk (by first | exact bI_nar _ | rfl) fi dX9_single_10 hP hD hS (by first | exact Nat.le_of_ble_eq_true rfl | (simp only [rm_X9_single]; omega)) (by first | exact Nat.le_of_ble_eq_true rfl | (simp only [rm_X9_single]; omega)) ⟨(by skip; (try rw [if_neg (ne_true_of_eq_false c_6)]); (try rw [c_6]); first | done | rfl), by first | exact fun _ => rfl | (intro hf_; rw [c_6] at hf_; cases hf_)⟩
def rm_X9_textPart : Room := ({ frames := 4, cells := 0, slots := 0, locals := 99 } : Room)
set_option maxHeartbeats 400000 in
set_option maxRecDepth 100000 in
theorem t_X9_textPart (l : Launch) (G : GG) (b0 sz : Nat) (h : Nat) (ad : Nat → Nat) (thr sts : Nat) (hs : Bool) (len at_ num many : Nat) (ch le fi se : Nat → Nat) (ti : Nat → Int32) (hat : at_ ≤ len) (hle : len ≤ 60) (hch : ∀ j, j < len → ch j < 1000) (hmy : at_ < len → many ≤ 30) : CT l yX9_textPart cX9_textPart 1 (some FieldType.boolean) (rm_X9_textPart) G b0 [.ref h] [oM h ad thr sts hs len at_ num many, aI G (ad 4) 60 (nF ch), aI G (ad 11) 31 (nF le), aI G (ad 12) 31 (nF fi), aI G (ad 13) 31 (nF se), aI G (ad 14) 31 ti] sz (Ri G (fun (r_ : Int32) (u : Nat × (Nat → Nat) × (Nat → Nat) × (Nat → Nat) × (Nat → Int32)) => r_ = bI ((ptO ch len at_).1) ∧ ((ptO ch len at_).1 = true → ptD ch len at_ many u.2.1 u.2.2.1 u.2.2.2.1 u.2.2.2.2 ∧ smP many le fi se ti u.2.1 u.2.2.1 u.2.2.2.1 u.2.2.2.2)) (fun (u : Nat × (Nat → Nat) × (Nat → Nat) × (Nat → Nat) × (Nat → Int32)) => [oM h ad thr sts hs len ((ptO ch len at_).2) u.1 many, aI G (ad 4) 60 (nF ch), aI G (ad 11) 31 (nF u.2.1), aI G (ad 12) 31 (nF u.2.2.1), aI G (ad 13) 31 (nF u.2.2.2.1), aI G (ad 14) 31 u.2.2.2.2])) := by
  refine CT.go (by decide) (Nat.le_of_ble_eq_true rfl) (fun p e s m below meth c A ls AR QQ hx hb hr hlk hml hown hnm hts hE hA hAb hsz hP hD hS hl hQQ => ?_)
  have hK := hE.1
  have hown : s.vm.findClass RX9 = some m.cls := hown
  have hl : lv_has ls 1 [(0, .ref h)] := hl
  clear hsz
  refine lv_aload_n hx hb dX9_textPart_0 rfl (lv_at hl 0 rfl) ?_
  refine va_get (D := G.1) (ci := 8) (v := .int (nI at_)) (C := RX9) (T := TX9) (N := 21) hx hb hts in_X9 hown hK hP 0 rfl rfl 14 (by decide) (hts _ q1681) (fun _ h9 => h9) rfl dX9_textPart_1 ?_
  refine lv_aload_n hx hb dX9_textPart_4 rfl (lv_at hl 0 rfl) ?_
  refine va_get (D := G.1) (ci := 8) (v := .int (nI len)) (C := RX9) (T := TX9) (N := 21) hx hb hts in_X9 hown hK hP 0 rfl rfl 7 (by decide) (hts _ q1674) (fun _ h9 => h9) rfl dX9_textPart_5 ?_
  refine N_icmp_ne (tgt := 13) hx hb dX9_textPart_8 (by decide) (by omega) (by omega) (fun c_8 => ?_) (fun c_8 => ?_)
  · skip
    have hat1 : at_ < len := by omega
    have hmy1 := hmy hat1
    have hc9 := hch at_ hat1
    refine lv_aload_n hx hb dX9_textPart_13 rfl (lv_at hl 0 rfl) ?_
    refine va_get (D := G.1) (ci := 8) (v := .ref (ad 11)) (C := RX9) (T := TX9) (N := 21) hx hb hts in_X9 hown hK hP 0 rfl rfl 17 (by decide) (hts _ q1684) (fun _ h9 => h9) rfl dX9_textPart_14 ?_
    refine lv_aload_n hx hb dX9_textPart_17 rfl (lv_at hl 0 rfl) ?_
    refine va_get (D := G.1) (ci := 8) (v := .int (nI many)) (C := RX9) (T := TX9) (N := 21) hx hb hts in_X9 hown hK hP 0 rfl rfl 16 (by decide) (hts _ q1683) (fun _ h9 => h9) rfl dX9_textPart_18 ?_
    refine lv_aload_n hx hb dX9_textPart_21 rfl (lv_at hl 0 rfl) ?_
    refine va_get (D := G.1) (ci := 8) (v := .ref (ad 4)) (C := RX9) (T := TX9) (N := 21) hx hb hts in_X9 hown hK hP 0 rfl rfl 6 (by decide) (hts _ q1673) (fun _ h9 => h9) rfl dX9_textPart_22 ?_
    refine lv_aload_n hx hb dX9_textPart_25 rfl (lv_at hl 0 rfl) ?_
    refine va_get (D := G.1) (ci := 8) (v := .int (nI at_)) (C := RX9) (T := TX9) (N := 21) hx hb hts in_X9 hown hK hP 0 rfl rfl 14 (by decide) (hts _ q1681) (fun _ h9 => h9) rfl dX9_textPart_26 ?_
    refine N_iald hx hb dX9_textPart_29 hK hP 1 0 rfl rfl (by omega) (by omega) ?_
    refine top_i (y := nI (ch at_)) rfl ?_
    refine N_iast (ws' := [oM h ad thr sts hs len at_ num many, aI G (ad 4) 60 (nF ch), aI G (ad 11) 31 (nF (va_up le many (ch at_))), aI G (ad 12) 31 (nF fi), aI G (ad 13) 31 (nF se), aI G (ad 14) 31 ti]) hx hb dX9_textPart_30 hK hP hD hS 2 0 rfl rfl (by omega) (by omega) (by rw [nF_upd]; rfl) (fun H locs hP hD hS => ?_)
    refine lv_aload_n hx hb dX9_textPart_31 rfl (lv_at hl 0 rfl) ?_
    refine lv_dup hx hb dX9_textPart_32 rfl ?_
    refine va_get (D := G.1) (ci := 8) (v := .int (nI at_)) (C := RX9) (T := TX9) (N := 21) hx hb hts in_X9 hown hK hP 0 rfl rfl 14 (by decide) (hts _ q1681) (fun _ h9 => h9) rfl dX9_textPart_33 ?_
    refine lv_iconst (v := nI 1) hx hb dX9_textPart_36 (by decide) ?_
    refine N_iadd hx hb dX9_textPart_37 ?_
    refine va_put (D := G.1) (ci := 8) (v := .int (nI (at_ + 1))) (ty := .int) (C := RX9) (T := TX9) (N := 21) hx hb hts in_X9 tyX9 tyX9_ok nmX9 hown hK hP hD hS 0 rfl rfl 14 (by decide) (hts _ q1681) (fun _ h9 => h9) rfl (by decide +kernel) rfl rfl (Nat.le_of_ble_eq_true rfl) dX9_textPart_38 (fun H locs hP hD hS => ?_)
    have hP : va_P G.1 vwCl [oM h ad thr sts hs len (at_ + 1) num many, aI G (ad 4) 60 (nF ch), aI G (ad 11) 31 (nF (va_up le many (ch at_))), aI G (ad 12) 31 (nF fi), aI G (ad 13) 31 (nF se), aI G (ad 14) 31 ti] _ := hP
    have hD : va_D A [oM h ad thr sts hs len (at_ + 1) num many, aI G (ad 4) 60 (nF ch), aI G (ad 11) 31 (nF (va_up le many (ch at_))), aI G (ad 12) 31 (nF fi), aI G (ad 13) 31 (nF se), aI G (ad 14) 31 ti] := hD
    refine lv_aload_n hx hb dX9_textPart_41 rfl (lv_at hl 0 rfl) ?_
    refine va_get (D := G.1) (ci := 8) (v := .ref (ad 11)) (C := RX9) (T := TX9) (N := 21) hx hb hts in_X9 hown hK hP 0 rfl rfl 17 (by decide) (hts _ q1684) (fun _ h9 => h9) rfl dX9_textPart_42 ?_
    refine lv_aload_n hx hb dX9_textPart_45 rfl (lv_at hl 0 rfl) ?_
    refine va_get (D := G.1) (ci := 8) (v := .int (nI many)) (C := RX9) (T := TX9) (N := 21) hx hb hts in_X9 hown hK hP 0 rfl rfl 16 (by decide) (hts _ q1683) (fun _ h9 => h9) rfl dX9_textPart_46 ?_
    refine N_iald hx hb dX9_textPart_49 hK hP 2 0 rfl rfl (by omega) (by omega) ?_
    refine top_i (y := nI ((va_up le many (ch at_)) many)) rfl ?_
    refine W.eq (g2 := F0 m 50 ls [.int (nI (ch at_))]) (by rw [va_up_self]) ?_
    by_cases c_50_100 : (ch at_) = 100
    · rw [show nI (ch at_) = nI 100 by rw [c_50_100]]
      refine lv_tableIn (tgt := 138) hx hb dX9_textPart_50 (by decide) (by decide) (by rfl) (by decide) ?_
      refine lv_aload_n hx hb dX9_textPart_138 rfl (lv_at hl 0 rfl) ?_
      refine lv_iconst (v := nI 1) hx hb dX9_textPart_139 (by decide) ?_
      refine fin_i (ws' := (fun (u_1 : Nat × (Nat → Nat) × (Nat → Nat) × (Nat → Int32)) => [oM h ad thr sts hs len (asgP ch len true (at_ + 1)) u_1.1 many, aI G (ad 4) 60 (nF ch), aI G (ad 11) 31 (nF (va_up le many (ch at_))), aI G (ad 12) 31 (nF u_1.2.1), aI G (ad 13) 31 (nF u_1.2.2.1), aI G (ad 14) 31 u_1.2.2.2])) hA hS hP hD [0, 1, 3, 4, 5] rfl [(true, 0), (true, 1), (false, 2), (true, 2), (true, 3), (true, 4)] (fun _ => rfl) (by decide) (run_V (As := [.int (nI 1)]) (rest := []) (n9 := 1) hx hb hml hown hts hE hAb hl.1 hS hP hD [0, 1, 3, 4, 5] rfl (by decide) (t_X9_assigns l G b0 _ h ad thr sts hs len (at_ + 1) num many ch fi se ti true (by omega) (by omega) (by exact hch) (by omega)) (lw_V q2077 q2079 qs97 q129 q2080) 0 rfl rfl ⟨rfl, by decide, by decide, by decide +kernel⟩ ⟨Nat.le_of_ble_eq_true rfl, Nat.le_of_ble_eq_true rfl⟩ ⟨by first | exact Nat.le_of_ble_eq_true rfl | (simp only [rm_X9_textPart, rm_X9_assigns]; omega), by first | exact Nat.le_of_ble_eq_true rfl | (simp only [rm_X9_textPart, rm_X9_assigns]; omega)⟩ dX9_textPart_140 (Nat.le_of_ble_eq_true rfl) rfl rfl) (fun r_1 u_1 H locs h_1 hP hD hS => ?_)
      have hP : va_P G.1 vwCl [oM h ad thr sts hs len (asgP ch len true (at_ + 1)) u_1.1 many, aI G (ad 4) 60 (nF ch), aI G (ad 11) 31 (nF (va_up le many (ch at_))), aI G (ad 12) 31 (nF u_1.2.1), aI G (ad 13) 31 (nF u_1.2.2.1), aI G (ad 14) 31 u_1.2.2.2] _ := hP
      have hD : va_D A [oM h ad thr sts hs len (asgP ch len true (at_ + 1)) u_1.1 many, aI G (ad 4) 60 (nF ch), aI G (ad 11) 31 (nF (va_up le many (ch at_))), aI G (ad 12) 31 (nF u_1.2.1), aI G (ad 13) 31 (nF u_1.2.2.1), aI G (ad 14) 31 u_1.2.2.2] := hD
      obtain ⟨h_1, f_1⟩ := h_1
      have h_1 : r_1 = (bI (asgO ch len true (at_ + 1))) := h_1
      try rw [h_1] at f_1
      have f_1 : (asgO ch len true (at_ + 1) = true → u_1.2.1 = va_up fi many (celR ch len (at_ + 1)).2.2.1 ∧ u_1.2.2.1 = va_up se many (celR ch len (at_ + 1)).2.2.2 ∧ u_1.2.2.2 = upd ti many (asgV ch len true (at_ + 1))) := f_1
      rw [h_1]
      have e_2 : (asgP ch len true (at_ + 1)) = ((ptO ch len at_).2) := by first | rfl | (unfold ptO; skip; (try rw [if_neg c_8]); (try rw [if_pos c_50_100]); first | done | rfl)
      rw [e_2] at hP hD
      have hP : va_P G.1 vwCl [oM h ad thr sts hs len ((ptO ch len at_).2) (((u_1.1, va_up le many (ch at_), u_1.2.1, u_1.2.2.1, u_1.2.2.2)).1) many, aI G (ad 4) 60 (nF ch), aI G (ad 11) 31 (nF (((u_1.1, va_up le many (ch at_), u_1.2.1, u_1.2.2.1, u_1.2.2.2)).2.1)), aI G (ad 12) 31 (nF (((u_1.1, va_up le many (ch at_), u_1.2.1, u_1.2.2.1, u_1.2.2.2)).2.2.1)), aI G (ad 13) 31 (nF (((u_1.1, va_up le many (ch at_), u_1.2.1, u_1.2.2.1, u_1.2.2.2)).2.2.2.1)), aI G (ad 14) 31 (((u_1.1, va_up le many (ch at_), u_1.2.1, u_1.2.2.1, u_1.2.2.2)).2.2.2.2)] _ := hP
      have hD : va_D A [oM h ad thr sts hs len ((ptO ch len at_).2) (((u_1.1, va_up le many (ch at_), u_1.2.1, u_1.2.2.1, u_1.2.2.2)).1) many, aI G (ad 4) 60 (nF ch), aI G (ad 11) 31 (nF (((u_1.1, va_up le many (ch at_), u_1.2.1, u_1.2.2.1, u_1.2.2.2)).2.1)), aI G (ad 12) 31 (nF (((u_1.1, va_up le many (ch at_), u_1.2.1, u_1.2.2.1, u_1.2.2.2)).2.2.1)), aI G (ad 13) 31 (nF (((u_1.1, va_up le many (ch at_), u_1.2.1, u_1.2.2.1, u_1.2.2.2)).2.2.2.1)), aI G (ad 14) 31 (((u_1.1, va_up le many (ch at_), u_1.2.1, u_1.2.2.1, u_1.2.2.2)).2.2.2.2)] := hD
      rw [hQQ]
      exact rt_z hx hb hr hlk (by first | exact bI_nar _ | rfl) ((u_1.1, va_up le many (ch at_), u_1.2.1, u_1.2.2.1, u_1.2.2.2)) dX9_textPart_143 hP hD hS (by first | exact Nat.le_of_ble_eq_true rfl | (simp only [rm_X9_textPart]; omega)) (by first | exact Nat.le_of_ble_eq_true rfl | (simp only [rm_X9_textPart]; omega)) ⟨(by first | rfl | (unfold ptO; skip; (try rw [if_neg c_8]); (try rw [if_pos c_50_100]); first | done | rfl)), by first | exact pd_as c_8 (Or.inl ⟨by assumption, rfl⟩) (by assumption) | exact pd_as c_8 (Or.inr ⟨by assumption, rfl⟩) (by assumption) | exact pd_sg c_8 (Or.inl ⟨by assumption, rfl, rfl⟩) (by assumption) | exact pd_sg c_8 (Or.inr ⟨by assumption, rfl, rfl⟩) (by assumption) | exact pd_no (by omega) | (intro hf_; exfalso; unfold ptO at hf_; first | (rw [if_pos c_8] at hf_; cases hf_; done) | (simp [*] at hf_))⟩
    by_cases c_50_105 : (ch at_) = 105
    · rw [show nI (ch at_) = nI 105 by rw [c_50_105]]
      refine lv_tableIn (tgt := 160) hx hb dX9_textPart_50 (by decide) (by decide) (by rfl) (by decide) ?_
      refine lv_iconst (v := nI 1) hx hb dX9_textPart_160 (by decide) ?_
      have e_3 : (at_ + 1) = ((ptO ch len at_).2) := by first | rfl | (unfold ptO; skip; (try rw [if_neg c_8]); (try rw [if_neg c_50_100]); (try rw [if_pos c_50_105]); first | done | rfl)
      rw [e_3] at hP hD
      have hP : va_P G.1 vwCl [oM h ad thr sts hs len ((ptO ch len at_).2) (((num, va_up le many (ch at_), fi, se, ti)).1) many, aI G (ad 4) 60 (nF ch), aI G (ad 11) 31 (nF (((num, va_up le many (ch at_), fi, se, ti)).2.1)), aI G (ad 12) 31 (nF (((num, va_up le many (ch at_), fi, se, ti)).2.2.1)), aI G (ad 13) 31 (nF (((num, va_up le many (ch at_), fi, se, ti)).2.2.2.1)), aI G (ad 14) 31 (((num, va_up le many (ch at_), fi, se, ti)).2.2.2.2)] _ := hP
      have hD : va_D A [oM h ad thr sts hs len ((ptO ch len at_).2) (((num, va_up le many (ch at_), fi, se, ti)).1) many, aI G (ad 4) 60 (nF ch), aI G (ad 11) 31 (nF (((num, va_up le many (ch at_), fi, se, ti)).2.1)), aI G (ad 12) 31 (nF (((num, va_up le many (ch at_), fi, se, ti)).2.2.1)), aI G (ad 13) 31 (nF (((num, va_up le many (ch at_), fi, se, ti)).2.2.2.1)), aI G (ad 14) 31 (((num, va_up le many (ch at_), fi, se, ti)).2.2.2.2)] := hD
      rw [hQQ]
      exact rt_z hx hb hr hlk (by first | exact bI_nar _ | rfl) ((num, va_up le many (ch at_), fi, se, ti)) dX9_textPart_161 hP hD hS (by first | exact Nat.le_of_ble_eq_true rfl | (simp only [rm_X9_textPart]; omega)) (by first | exact Nat.le_of_ble_eq_true rfl | (simp only [rm_X9_textPart]; omega)) ⟨(by first | rfl | (unfold ptO; skip; (try rw [if_neg c_8]); (try rw [if_neg c_50_100]); (try rw [if_pos c_50_105]); first | done | rfl)), by first | exact pd_as c_8 (Or.inl ⟨by assumption, rfl⟩) (by assumption) | exact pd_as c_8 (Or.inr ⟨by assumption, rfl⟩) (by assumption) | exact pd_sg c_8 (Or.inl ⟨by assumption, rfl, rfl⟩) (by assumption) | exact pd_sg c_8 (Or.inr ⟨by assumption, rfl, rfl⟩) (by assumption) | exact pd_no (by omega) | (intro hf_; exfalso; unfold ptO at hf_; first | (rw [if_pos c_8] at hf_; cases hf_; done) | (simp [*] at hf_))⟩
    by_cases c_50_108 : (ch at_) = 108
    · rw [show nI (ch at_) = nI 108 by rw [c_50_108]]
      refine lv_tableIn (tgt := 153) hx hb dX9_textPart_50 (by decide) (by decide) (by rfl) (by decide) ?_
      refine lv_aload_n hx hb dX9_textPart_153 rfl (lv_at hl 0 rfl) ?_
      refine lv_iconst (v := nI 1) hx hb dX9_textPart_154 (by decide) ?_
      refine lv_iconst (v := nI 3) hx hb dX9_textPart_155 (by decide) ?_
      refine fin_i (ws' := (fun (u_4 : Nat → Nat) => [oM h ad thr sts hs len ((rdR ch len 1 3 (at_ + 1)).2.2) ((rdR ch len 1 3 (at_ + 1)).2.1) many, aI G (ad 4) 60 (nF ch), aI G (ad 11) 31 (nF (va_up le many (ch at_))), aI G (ad 12) 31 (nF u_4), aI G (ad 13) 31 (nF se), aI G (ad 14) 31 ti])) hA hS hP hD [0, 1, 3] rfl [(true, 0), (true, 1), (false, 2), (true, 2), (false, 4), (false, 5)] (fun _ => rfl) (by decide) (run_V (As := [.int (nI 1), .int (nI 3)]) (rest := []) (n9 := 2) hx hb hml hown hts hE hAb hl.1 hS hP hD [0, 1, 3] rfl (by decide) (t_X9_single l G b0 _ h ad thr sts hs len (at_ + 1) num many ch fi 1 3 (by omega) (by omega) (by exact hch) (by omega) (by omega) (by omega)) (lw_V q2093 q2095 qs101 q129 q2096) 0 rfl rfl ⟨rfl, by decide, by decide, by decide +kernel⟩ ⟨Nat.le_of_ble_eq_true rfl, Nat.le_of_ble_eq_true rfl⟩ ⟨by first | exact Nat.le_of_ble_eq_true rfl | (simp only [rm_X9_textPart, rm_X9_single]; omega), by first | exact Nat.le_of_ble_eq_true rfl | (simp only [rm_X9_textPart, rm_X9_single]; omega)⟩ dX9_textPart_156 (Nat.le_of_ble_eq_true rfl) rfl rfl) (fun r_4 u_4 H locs h_4 hP hD hS => ?_)
      have hP : va_P G.1 vwCl [oM h ad thr sts hs len ((rdR ch len 1 3 (at_ + 1)).2.2) ((rdR ch len 1 3 (at_ + 1)).2.1) many, aI G (ad 4) 60 (nF ch), aI G (ad 11) 31 (nF (va_up le many (ch at_))), aI G (ad 12) 31 (nF u_4), aI G (ad 13) 31 (nF se), aI G (ad 14) 31 ti] _ := hP
      have hD : va_D A [oM h ad thr sts hs len ((rdR ch len 1 3 (at_ + 1)).2.2) ((rdR ch len 1 3 (at_ + 1)).2.1) many, aI G (ad 4) 60 (nF ch), aI G (ad 11) 31 (nF (va_up le many (ch at_))), aI G (ad 12) 31 (nF u_4), aI G (ad 13) 31 (nF se), aI G (ad 14) 31 ti] := hD
      obtain ⟨h_4, f_4⟩ := h_4
      have h_4 : r_4 = (bI ((rdR ch len 1 3 (at_ + 1)).1)) := h_4
      try rw [h_4] at f_4
      have f_4 : ((rdR ch len 1 3 (at_ + 1)).1 = true → u_4 = va_up fi many (rdR ch len 1 3 (at_ + 1)).2.1) := f_4
      rw [h_4]
      have e_5 : ((rdR ch len 1 3 (at_ + 1)).2.2) = ((ptO ch len at_).2) := by first | rfl | (unfold ptO; skip; (try rw [if_neg c_8]); (try rw [if_neg c_50_100]); (try rw [if_neg c_50_105]); (try rw [if_pos c_50_108]); first | done | rfl)
      rw [e_5] at hP hD
      have hP : va_P G.1 vwCl [oM h ad thr sts hs len ((ptO ch len at_).2) ((((rdR ch len 1 3 (at_ + 1)).2.1, va_up le many (ch at_), u_4, se, ti)).1) many, aI G (ad 4) 60 (nF ch), aI G (ad 11) 31 (nF ((((rdR ch len 1 3 (at_ + 1)).2.1, va_up le many (ch at_), u_4, se, ti)).2.1)), aI G (ad 12) 31 (nF ((((rdR ch len 1 3 (at_ + 1)).2.1, va_up le many (ch at_), u_4, se, ti)).2.2.1)), aI G (ad 13) 31 (nF ((((rdR ch len 1 3 (at_ + 1)).2.1, va_up le many (ch at_), u_4, se, ti)).2.2.2.1)), aI G (ad 14) 31 ((((rdR ch len 1 3 (at_ + 1)).2.1, va_up le many (ch at_), u_4, se, ti)).2.2.2.2)] _ := hP
      have hD : va_D A [oM h ad thr sts hs len ((ptO ch len at_).2) ((((rdR ch len 1 3 (at_ + 1)).2.1, va_up le many (ch at_), u_4, se, ti)).1) many, aI G (ad 4) 60 (nF ch), aI G (ad 11) 31 (nF ((((rdR ch len 1 3 (at_ + 1)).2.1, va_up le many (ch at_), u_4, se, ti)).2.1)), aI G (ad 12) 31 (nF ((((rdR ch len 1 3 (at_ + 1)).2.1, va_up le many (ch at_), u_4, se, ti)).2.2.1)), aI G (ad 13) 31 (nF ((((rdR ch len 1 3 (at_ + 1)).2.1, va_up le many (ch at_), u_4, se, ti)).2.2.2.1)), aI G (ad 14) 31 ((((rdR ch len 1 3 (at_ + 1)).2.1, va_up le many (ch at_), u_4, se, ti)).2.2.2.2)] := hD
      rw [hQQ]
      exact rt_z hx hb hr hlk (by first | exact bI_nar _ | rfl) (((rdR ch len 1 3 (at_ + 1)).2.1, va_up le many (ch at_), u_4, se, ti)) dX9_textPart_159 hP hD hS (by first | exact Nat.le_of_ble_eq_true rfl | (simp only [rm_X9_textPart]; omega)) (by first | exact Nat.le_of_ble_eq_true rfl | (simp only [rm_X9_textPart]; omega)) ⟨(by first | rfl | (unfold ptO; skip; (try rw [if_neg c_8]); (try rw [if_neg c_50_100]); (try rw [if_neg c_50_105]); (try rw [if_pos c_50_108]); first | done | rfl)), by first | exact pd_as c_8 (Or.inl ⟨by assumption, rfl⟩) (by assumption) | exact pd_as c_8 (Or.inr ⟨by assumption, rfl⟩) (by assumption) | exact pd_sg c_8 (Or.inl ⟨by assumption, rfl, rfl⟩) (by assumption) | exact pd_sg c_8 (Or.inr ⟨by assumption, rfl, rfl⟩) (by assumption) | exact pd_no (by omega) | (intro hf_; exfalso; unfold ptO at hf_; first | (rw [if_pos c_8] at hf_; cases hf_; done) | (simp [*] at hf_))⟩
    by_cases c_50_109 : (ch at_) = 109
    · rw [show nI (ch at_) = nI 109 by rw [c_50_109]]
      refine lv_tableIn (tgt := 160) hx hb dX9_textPart_50 (by decide) (by decide) (by rfl) (by decide) ?_
      refine lv_iconst (v := nI 1) hx hb dX9_textPart_160 (by decide) ?_
      have e_6 : (at_ + 1) = ((ptO ch len at_).2) := by first | rfl | (unfold ptO; skip; (try rw [if_neg c_8]); (try rw [if_neg c_50_100]); (try rw [if_neg c_50_105]); (try rw [if_neg c_50_108]); (try rw [if_pos c_50_109]); first | done | rfl)
      rw [e_6] at hP hD
      have hP : va_P G.1 vwCl [oM h ad thr sts hs len ((ptO ch len at_).2) (((num, va_up le many (ch at_), fi, se, ti)).1) many, aI G (ad 4) 60 (nF ch), aI G (ad 11) 31 (nF (((num, va_up le many (ch at_), fi, se, ti)).2.1)), aI G (ad 12) 31 (nF (((num, va_up le many (ch at_), fi, se, ti)).2.2.1)), aI G (ad 13) 31 (nF (((num, va_up le many (ch at_), fi, se, ti)).2.2.2.1)), aI G (ad 14) 31 (((num, va_up le many (ch at_), fi, se, ti)).2.2.2.2)] _ := hP
      have hD : va_D A [oM h ad thr sts hs len ((ptO ch len at_).2) (((num, va_up le many (ch at_), fi, se, ti)).1) many, aI G (ad 4) 60 (nF ch), aI G (ad 11) 31 (nF (((num, va_up le many (ch at_), fi, se, ti)).2.1)), aI G (ad 12) 31 (nF (((num, va_up le many (ch at_), fi, se, ti)).2.2.1)), aI G (ad 13) 31 (nF (((num, va_up le many (ch at_), fi, se, ti)).2.2.2.1)), aI G (ad 14) 31 (((num, va_up le many (ch at_), fi, se, ti)).2.2.2.2)] := hD
      rw [hQQ]
      exact rt_z hx hb hr hlk (by first | exact bI_nar _ | rfl) ((num, va_up le many (ch at_), fi, se, ti)) dX9_textPart_161 hP hD hS (by first | exact Nat.le_of_ble_eq_true rfl | (simp only [rm_X9_textPart]; omega)) (by first | exact Nat.le_of_ble_eq_true rfl | (simp only [rm_X9_textPart]; omega)) ⟨(by first | rfl | (unfold ptO; skip; (try rw [if_neg c_8]); (try rw [if_neg c_50_100]); (try rw [if_neg c_50_105]); (try rw [if_neg c_50_108]); (try rw [if_pos c_50_109]); first | done | rfl)), by first | exact pd_as c_8 (Or.inl ⟨by assumption, rfl⟩) (by assumption) | exact pd_as c_8 (Or.inr ⟨by assumption, rfl⟩) (by assumption) | exact pd_sg c_8 (Or.inl ⟨by assumption, rfl, rfl⟩) (by assumption) | exact pd_sg c_8 (Or.inr ⟨by assumption, rfl, rfl⟩) (by assumption) | exact pd_no (by omega) | (intro hf_; exfalso; unfold ptO at hf_; first | (rw [if_pos c_8] at hf_; cases hf_; done) | (simp [*] at hf_))⟩
    by_cases c_50_112 : (ch at_) = 112
    · rw [show nI (ch at_) = nI 112 by rw [c_50_112]]
      refine lv_tableIn (tgt := 132) hx hb dX9_textPart_50 (by decide) (by decide) (by rfl) (by decide) ?_
      refine lv_aload_n hx hb dX9_textPart_132 rfl (lv_at hl 0 rfl) ?_
      refine lv_iconst (v := nI 0) hx hb dX9_textPart_133 (by decide) ?_
      refine fin_i (ws' := (fun (u_7 : Nat × (Nat → Nat) × (Nat → Nat) × (Nat → Int32)) => [oM h ad thr sts hs len (asgP ch len false (at_ + 1)) u_7.1 many, aI G (ad 4) 60 (nF ch), aI G (ad 11) 31 (nF (va_up le many (ch at_))), aI G (ad 12) 31 (nF u_7.2.1), aI G (ad 13) 31 (nF u_7.2.2.1), aI G (ad 14) 31 u_7.2.2.2])) hA hS hP hD [0, 1, 3, 4, 5] rfl [(true, 0), (true, 1), (false, 2), (true, 2), (true, 3), (true, 4)] (fun _ => rfl) (by decide) (run_V (As := [.int (nI 0)]) (rest := []) (n9 := 1) hx hb hml hown hts hE hAb hl.1 hS hP hD [0, 1, 3, 4, 5] rfl (by decide) (t_X9_assigns l G b0 _ h ad thr sts hs len (at_ + 1) num many ch fi se ti false (by omega) (by omega) (by exact hch) (by omega)) (lw_V q2077 q2079 qs97 q129 q2080) 0 rfl rfl ⟨rfl, by decide, by decide, by decide +kernel⟩ ⟨Nat.le_of_ble_eq_true rfl, Nat.le_of_ble_eq_true rfl⟩ ⟨by first | exact Nat.le_of_ble_eq_true rfl | (simp only [rm_X9_textPart, rm_X9_assigns]; omega), by first | exact Nat.le_of_ble_eq_true rfl | (simp only [rm_X9_textPart, rm_X9_assigns]; omega)⟩ dX9_textPart_134 (Nat.le_of_ble_eq_true rfl) rfl rfl) (fun r_7 u_7 H locs h_7 hP hD hS => ?_)
      have hP : va_P G.1 vwCl [oM h ad thr sts hs len (asgP ch len false (at_ + 1)) u_7.1 many, aI G (ad 4) 60 (nF ch), aI G (ad 11) 31 (nF (va_up le many (ch at_))), aI G (ad 12) 31 (nF u_7.2.1), aI G (ad 13) 31 (nF u_7.2.2.1), aI G (ad 14) 31 u_7.2.2.2] _ := hP
      have hD : va_D A [oM h ad thr sts hs len (asgP ch len false (at_ + 1)) u_7.1 many, aI G (ad 4) 60 (nF ch), aI G (ad 11) 31 (nF (va_up le many (ch at_))), aI G (ad 12) 31 (nF u_7.2.1), aI G (ad 13) 31 (nF u_7.2.2.1), aI G (ad 14) 31 u_7.2.2.2] := hD
      obtain ⟨h_7, f_7⟩ := h_7
      have h_7 : r_7 = (bI (asgO ch len false (at_ + 1))) := h_7
      try rw [h_7] at f_7
      have f_7 : (asgO ch len false (at_ + 1) = true → u_7.2.1 = va_up fi many (celR ch len (at_ + 1)).2.2.1 ∧ u_7.2.2.1 = va_up se many (celR ch len (at_ + 1)).2.2.2 ∧ u_7.2.2.2 = upd ti many (asgV ch len false (at_ + 1))) := f_7
      rw [h_7]
      have e_8 : (asgP ch len false (at_ + 1)) = ((ptO ch len at_).2) := by first | rfl | (unfold ptO; skip; (try rw [if_neg c_8]); (try rw [if_neg c_50_100]); (try rw [if_neg c_50_105]); (try rw [if_neg c_50_108]); (try rw [if_neg c_50_109]); (try rw [if_pos c_50_112]); first | done | rfl)
      rw [e_8] at hP hD
      have hP : va_P G.1 vwCl [oM h ad thr sts hs len ((ptO ch len at_).2) (((u_7.1, va_up le many (ch at_), u_7.2.1, u_7.2.2.1, u_7.2.2.2)).1) many, aI G (ad 4) 60 (nF ch), aI G (ad 11) 31 (nF (((u_7.1, va_up le many (ch at_), u_7.2.1, u_7.2.2.1, u_7.2.2.2)).2.1)), aI G (ad 12) 31 (nF (((u_7.1, va_up le many (ch at_), u_7.2.1, u_7.2.2.1, u_7.2.2.2)).2.2.1)), aI G (ad 13) 31 (nF (((u_7.1, va_up le many (ch at_), u_7.2.1, u_7.2.2.1, u_7.2.2.2)).2.2.2.1)), aI G (ad 14) 31 (((u_7.1, va_up le many (ch at_), u_7.2.1, u_7.2.2.1, u_7.2.2.2)).2.2.2.2)] _ := hP
      have hD : va_D A [oM h ad thr sts hs len ((ptO ch len at_).2) (((u_7.1, va_up le many (ch at_), u_7.2.1, u_7.2.2.1, u_7.2.2.2)).1) many, aI G (ad 4) 60 (nF ch), aI G (ad 11) 31 (nF (((u_7.1, va_up le many (ch at_), u_7.2.1, u_7.2.2.1, u_7.2.2.2)).2.1)), aI G (ad 12) 31 (nF (((u_7.1, va_up le many (ch at_), u_7.2.1, u_7.2.2.1, u_7.2.2.2)).2.2.1)), aI G (ad 13) 31 (nF (((u_7.1, va_up le many (ch at_), u_7.2.1, u_7.2.2.1, u_7.2.2.2)).2.2.2.1)), aI G (ad 14) 31 (((u_7.1, va_up le many (ch at_), u_7.2.1, u_7.2.2.1, u_7.2.2.2)).2.2.2.2)] := hD
      rw [hQQ]
      exact rt_z hx hb hr hlk (by first | exact bI_nar _ | rfl) ((u_7.1, va_up le many (ch at_), u_7.2.1, u_7.2.2.1, u_7.2.2.2)) dX9_textPart_137 hP hD hS (by first | exact Nat.le_of_ble_eq_true rfl | (simp only [rm_X9_textPart]; omega)) (by first | exact Nat.le_of_ble_eq_true rfl | (simp only [rm_X9_textPart]; omega)) ⟨(by first | rfl | (unfold ptO; skip; (try rw [if_neg c_8]); (try rw [if_neg c_50_100]); (try rw [if_neg c_50_105]); (try rw [if_neg c_50_108]); (try rw [if_neg c_50_109]); (try rw [if_pos c_50_112]); first | done | rfl)), by first | exact pd_as c_8 (Or.inl ⟨by assumption, rfl⟩) (by assumption) | exact pd_as c_8 (Or.inr ⟨by assumption, rfl⟩) (by assumption) | exact pd_sg c_8 (Or.inl ⟨by assumption, rfl, rfl⟩) (by assumption) | exact pd_sg c_8 (Or.inr ⟨by assumption, rfl, rfl⟩) (by assumption) | exact pd_no (by omega) | (intro hf_; exfalso; unfold ptO at hf_; first | (rw [if_pos c_8] at hf_; cases hf_; done) | (simp [*] at hf_))⟩
    by_cases c_50_114 : (ch at_) = 114
    · rw [show nI (ch at_) = nI 114 by rw [c_50_114]]
      refine lv_tableIn (tgt := 160) hx hb dX9_textPart_50 (by decide) (by decide) (by rfl) (by decide) ?_
      refine lv_iconst (v := nI 1) hx hb dX9_textPart_160 (by decide) ?_
      have e_9 : (at_ + 1) = ((ptO ch len at_).2) := by first | rfl | (unfold ptO; skip; (try rw [if_neg c_8]); (try rw [if_neg c_50_100]); (try rw [if_neg c_50_105]); (try rw [if_neg c_50_108]); (try rw [if_neg c_50_109]); (try rw [if_neg c_50_112]); (try rw [if_pos c_50_114]); first | done | rfl)
      rw [e_9] at hP hD
      have hP : va_P G.1 vwCl [oM h ad thr sts hs len ((ptO ch len at_).2) (((num, va_up le many (ch at_), fi, se, ti)).1) many, aI G (ad 4) 60 (nF ch), aI G (ad 11) 31 (nF (((num, va_up le many (ch at_), fi, se, ti)).2.1)), aI G (ad 12) 31 (nF (((num, va_up le many (ch at_), fi, se, ti)).2.2.1)), aI G (ad 13) 31 (nF (((num, va_up le many (ch at_), fi, se, ti)).2.2.2.1)), aI G (ad 14) 31 (((num, va_up le many (ch at_), fi, se, ti)).2.2.2.2)] _ := hP
      have hD : va_D A [oM h ad thr sts hs len ((ptO ch len at_).2) (((num, va_up le many (ch at_), fi, se, ti)).1) many, aI G (ad 4) 60 (nF ch), aI G (ad 11) 31 (nF (((num, va_up le many (ch at_), fi, se, ti)).2.1)), aI G (ad 12) 31 (nF (((num, va_up le many (ch at_), fi, se, ti)).2.2.1)), aI G (ad 13) 31 (nF (((num, va_up le many (ch at_), fi, se, ti)).2.2.2.1)), aI G (ad 14) 31 (((num, va_up le many (ch at_), fi, se, ti)).2.2.2.2)] := hD
      rw [hQQ]
      exact rt_z hx hb hr hlk (by first | exact bI_nar _ | rfl) ((num, va_up le many (ch at_), fi, se, ti)) dX9_textPart_161 hP hD hS (by first | exact Nat.le_of_ble_eq_true rfl | (simp only [rm_X9_textPart]; omega)) (by first | exact Nat.le_of_ble_eq_true rfl | (simp only [rm_X9_textPart]; omega)) ⟨(by first | rfl | (unfold ptO; skip; (try rw [if_neg c_8]); (try rw [if_neg c_50_100]); (try rw [if_neg c_50_105]); (try rw [if_neg c_50_108]); (try rw [if_neg c_50_109]); (try rw [if_neg c_50_112]); (try rw [if_pos c_50_114]); first | done | rfl)), by first | exact pd_as c_8 (Or.inl ⟨by assumption, rfl⟩) (by assumption) | exact pd_as c_8 (Or.inr ⟨by assumption, rfl⟩) (by assumption) | exact pd_sg c_8 (Or.inl ⟨by assumption, rfl, rfl⟩) (by assumption) | exact pd_sg c_8 (Or.inr ⟨by assumption, rfl, rfl⟩) (by assumption) | exact pd_no (by omega) | (intro hf_; exfalso; unfold ptO at hf_; first | (rw [if_pos c_8] at hf_; cases hf_; done) | (simp [*] at hf_))⟩
    by_cases c_50_116 : (ch at_) = 116
    · rw [show nI (ch at_) = nI 116 by rw [c_50_116]]
      refine lv_tableIn (tgt := 144) hx hb dX9_textPart_50 (by decide) (by decide) (by rfl) (by decide) ?_
      refine lv_aload_n hx hb dX9_textPart_144 rfl (lv_at hl 0 rfl) ?_
      refine lv_iconst (v := nI 0) hx hb dX9_textPart_145 (by decide) ?_
      refine lv_sipush (v := nI 255) hx hb dX9_textPart_146 (by decide) ?_
      refine fin_i (ws' := (fun (u_10 : Nat → Nat) => [oM h ad thr sts hs len ((rdR ch len 0 255 (at_ + 1)).2.2) ((rdR ch len 0 255 (at_ + 1)).2.1) many, aI G (ad 4) 60 (nF ch), aI G (ad 11) 31 (nF (va_up le many (ch at_))), aI G (ad 12) 31 (nF u_10), aI G (ad 13) 31 (nF se), aI G (ad 14) 31 ti])) hA hS hP hD [0, 1, 3] rfl [(true, 0), (true, 1), (false, 2), (true, 2), (false, 4), (false, 5)] (fun _ => rfl) (by decide) (run_V (As := [.int (nI 0), .int (nI 255)]) (rest := []) (n9 := 2) hx hb hml hown hts hE hAb hl.1 hS hP hD [0, 1, 3] rfl (by decide) (t_X9_single l G b0 _ h ad thr sts hs len (at_ + 1) num many ch fi 0 255 (by omega) (by omega) (by exact hch) (by omega) (by omega) (by omega)) (lw_V q2093 q2095 qs101 q129 q2096) 0 rfl rfl ⟨rfl, by decide, by decide, by decide +kernel⟩ ⟨Nat.le_of_ble_eq_true rfl, Nat.le_of_ble_eq_true rfl⟩ ⟨by first | exact Nat.le_of_ble_eq_true rfl | (simp only [rm_X9_textPart, rm_X9_single]; omega), by first | exact Nat.le_of_ble_eq_true rfl | (simp only [rm_X9_textPart, rm_X9_single]; omega)⟩ dX9_textPart_149 (Nat.le_of_ble_eq_true rfl) rfl rfl) (fun r_10 u_10 H locs h_10 hP hD hS => ?_)
      have hP : va_P G.1 vwCl [oM h ad thr sts hs len ((rdR ch len 0 255 (at_ + 1)).2.2) ((rdR ch len 0 255 (at_ + 1)).2.1) many, aI G (ad 4) 60 (nF ch), aI G (ad 11) 31 (nF (va_up le many (ch at_))), aI G (ad 12) 31 (nF u_10), aI G (ad 13) 31 (nF se), aI G (ad 14) 31 ti] _ := hP
      have hD : va_D A [oM h ad thr sts hs len ((rdR ch len 0 255 (at_ + 1)).2.2) ((rdR ch len 0 255 (at_ + 1)).2.1) many, aI G (ad 4) 60 (nF ch), aI G (ad 11) 31 (nF (va_up le many (ch at_))), aI G (ad 12) 31 (nF u_10), aI G (ad 13) 31 (nF se), aI G (ad 14) 31 ti] := hD
      obtain ⟨h_10, f_10⟩ := h_10
      have h_10 : r_10 = (bI ((rdR ch len 0 255 (at_ + 1)).1)) := h_10
      try rw [h_10] at f_10
      have f_10 : ((rdR ch len 0 255 (at_ + 1)).1 = true → u_10 = va_up fi many (rdR ch len 0 255 (at_ + 1)).2.1) := f_10
      rw [h_10]
      have e_11 : ((rdR ch len 0 255 (at_ + 1)).2.2) = ((ptO ch len at_).2) := by first | rfl | (unfold ptO; skip; (try rw [if_neg c_8]); (try rw [if_neg c_50_100]); (try rw [if_neg c_50_105]); (try rw [if_neg c_50_108]); (try rw [if_neg c_50_109]); (try rw [if_neg c_50_112]); (try rw [if_neg c_50_114]); (try rw [if_pos c_50_116]); first | done | rfl)
      rw [e_11] at hP hD
      have hP : va_P G.1 vwCl [oM h ad thr sts hs len ((ptO ch len at_).2) ((((rdR ch len 0 255 (at_ + 1)).2.1, va_up le many (ch at_), u_10, se, ti)).1) many, aI G (ad 4) 60 (nF ch), aI G (ad 11) 31 (nF ((((rdR ch len 0 255 (at_ + 1)).2.1, va_up le many (ch at_), u_10, se, ti)).2.1)), aI G (ad 12) 31 (nF ((((rdR ch len 0 255 (at_ + 1)).2.1, va_up le many (ch at_), u_10, se, ti)).2.2.1)), aI G (ad 13) 31 (nF ((((rdR ch len 0 255 (at_ + 1)).2.1, va_up le many (ch at_), u_10, se, ti)).2.2.2.1)), aI G (ad 14) 31 ((((rdR ch len 0 255 (at_ + 1)).2.1, va_up le many (ch at_), u_10, se, ti)).2.2.2.2)] _ := hP
      have hD : va_D A [oM h ad thr sts hs len ((ptO ch len at_).2) ((((rdR ch len 0 255 (at_ + 1)).2.1, va_up le many (ch at_), u_10, se, ti)).1) many, aI G (ad 4) 60 (nF ch), aI G (ad 11) 31 (nF ((((rdR ch len 0 255 (at_ + 1)).2.1, va_up le many (ch at_), u_10, se, ti)).2.1)), aI G (ad 12) 31 (nF ((((rdR ch len 0 255 (at_ + 1)).2.1, va_up le many (ch at_), u_10, se, ti)).2.2.1)), aI G (ad 13) 31 (nF ((((rdR ch len 0 255 (at_ + 1)).2.1, va_up le many (ch at_), u_10, se, ti)).2.2.2.1)), aI G (ad 14) 31 ((((rdR ch len 0 255 (at_ + 1)).2.1, va_up le many (ch at_), u_10, se, ti)).2.2.2.2)] := hD
      rw [hQQ]
      exact rt_z hx hb hr hlk (by first | exact bI_nar _ | rfl) (((rdR ch len 0 255 (at_ + 1)).2.1, va_up le many (ch at_), u_10, se, ti)) dX9_textPart_152 hP hD hS (by first | exact Nat.le_of_ble_eq_true rfl | (simp only [rm_X9_textPart]; omega)) (by first | exact Nat.le_of_ble_eq_true rfl | (simp only [rm_X9_textPart]; omega)) ⟨(by first | rfl | (unfold ptO; skip; (try rw [if_neg c_8]); (try rw [if_neg c_50_100]); (try rw [if_neg c_50_105]); (try rw [if_neg c_50_108]); (try rw [if_neg c_50_109]); (try rw [if_neg c_50_112]); (try rw [if_neg c_50_114]); (try rw [if_pos c_50_116]); first | done | rfl)), by first | exact pd_as c_8 (Or.inl ⟨by assumption, rfl⟩) (by assumption) | exact pd_as c_8 (Or.inr ⟨by assumption, rfl⟩) (by assumption) | exact pd_sg c_8 (Or.inl ⟨by assumption, rfl, rfl⟩) (by assumption) | exact pd_sg c_8 (Or.inr ⟨by assumption, rfl, rfl⟩) (by assumption) | exact pd_no (by omega) | (intro hf_; exfalso; unfold ptO at hf_; first | (rw [if_pos c_8] at hf_; cases hf_; done) | (simp [*] at hf_))⟩
    refine N_tabD (tgt := 162) (lo' := 100) (n := 16) hx hb dX9_textPart_50 (by omega) rfl rfl (fun h1_ h2_ => (show ∀ j, j < 17 → (j ≠ 0 ∧ j ≠ 5 ∧ j ≠ 8 ∧ j ≠ 9 ∧ j ≠ 12 ∧ j ≠ 14 ∧ j ≠ 16) → (#[88, 112, 112, 112, 112, 110, 112, 112, 103, 110, 112, 112, 82, 112, 110, 112, 94] : Array Int)[j]? = some 112 by decide) _ (by omega) (by omega)) (by decide) ?_
    refine lv_aload_n hx hb dX9_textPart_162 rfl (lv_at hl 0 rfl) ?_
    refine lv_dup hx hb dX9_textPart_163 rfl ?_
    refine va_get (D := G.1) (ci := 8) (v := .int (nI (at_ + 1))) (C := RX9) (T := TX9) (N := 21) hx hb hts in_X9 hown hK hP 0 rfl rfl 14 (by decide) (hts _ q1681) (fun _ h9 => h9) rfl dX9_textPart_164 ?_
    refine lv_iconst (v := nI 1) hx hb dX9_textPart_167 (by decide) ?_
    refine N_isub hx hb dX9_textPart_168 (by omega) ?_
    refine va_put (D := G.1) (ci := 8) (v := .int (nI ((at_ + 1) - 1))) (ty := .int) (C := RX9) (T := TX9) (N := 21) hx hb hts in_X9 tyX9 tyX9_ok nmX9 hown hK hP hD hS 0 rfl rfl 14 (by decide) (hts _ q1681) (fun _ h9 => h9) rfl (by decide +kernel) rfl rfl (Nat.le_of_ble_eq_true rfl) dX9_textPart_169 (fun H locs hP hD hS => ?_)
    have hP : va_P G.1 vwCl [oM h ad thr sts hs len ((at_ + 1) - 1) num many, aI G (ad 4) 60 (nF ch), aI G (ad 11) 31 (nF (va_up le many (ch at_))), aI G (ad 12) 31 (nF fi), aI G (ad 13) 31 (nF se), aI G (ad 14) 31 ti] _ := hP
    have hD : va_D A [oM h ad thr sts hs len ((at_ + 1) - 1) num many, aI G (ad 4) 60 (nF ch), aI G (ad 11) 31 (nF (va_up le many (ch at_))), aI G (ad 12) 31 (nF fi), aI G (ad 13) 31 (nF se), aI G (ad 14) 31 ti] := hD
    refine lv_iconst (v := nI 0) hx hb dX9_textPart_172 (by decide) ?_
    have e_12 : ((at_ + 1) - 1) = ((ptO ch len at_).2) := by first | rfl | (unfold ptO; skip; (try rw [if_neg c_8]); (try rw [if_neg c_50_100]); (try rw [if_neg c_50_105]); (try rw [if_neg c_50_108]); (try rw [if_neg c_50_109]); (try rw [if_neg c_50_112]); (try rw [if_neg c_50_114]); (try rw [if_neg c_50_116]); first | done | rfl)
    rw [e_12] at hP hD
    have hP : va_P G.1 vwCl [oM h ad thr sts hs len ((ptO ch len at_).2) (((num, va_up le many (ch at_), fi, se, ti)).1) many, aI G (ad 4) 60 (nF ch), aI G (ad 11) 31 (nF (((num, va_up le many (ch at_), fi, se, ti)).2.1)), aI G (ad 12) 31 (nF (((num, va_up le many (ch at_), fi, se, ti)).2.2.1)), aI G (ad 13) 31 (nF (((num, va_up le many (ch at_), fi, se, ti)).2.2.2.1)), aI G (ad 14) 31 (((num, va_up le many (ch at_), fi, se, ti)).2.2.2.2)] _ := hP
    have hD : va_D A [oM h ad thr sts hs len ((ptO ch len at_).2) (((num, va_up le many (ch at_), fi, se, ti)).1) many, aI G (ad 4) 60 (nF ch), aI G (ad 11) 31 (nF (((num, va_up le many (ch at_), fi, se, ti)).2.1)), aI G (ad 12) 31 (nF (((num, va_up le many (ch at_), fi, se, ti)).2.2.1)), aI G (ad 13) 31 (nF (((num, va_up le many (ch at_), fi, se, ti)).2.2.2.1)), aI G (ad 14) 31 (((num, va_up le many (ch at_), fi, se, ti)).2.2.2.2)] := hD
    rw [hQQ]
    exact rt_z hx hb hr hlk (by first | exact bI_nar _ | rfl) ((num, va_up le many (ch at_), fi, se, ti)) dX9_textPart_173 hP hD hS (by first | exact Nat.le_of_ble_eq_true rfl | (simp only [rm_X9_textPart]; omega)) (by first | exact Nat.le_of_ble_eq_true rfl | (simp only [rm_X9_textPart]; omega)) ⟨(by first | rfl | (unfold ptO; skip; (try rw [if_neg c_8]); (try rw [if_neg c_50_100]); (try rw [if_neg c_50_105]); (try rw [if_neg c_50_108]); (try rw [if_neg c_50_109]); (try rw [if_neg c_50_112]); (try rw [if_neg c_50_114]); (try rw [if_neg c_50_116]); first | done | rfl)), by first | exact pd_as c_8 (Or.inl ⟨by assumption, rfl⟩) (by assumption) | exact pd_as c_8 (Or.inr ⟨by assumption, rfl⟩) (by assumption) | exact pd_sg c_8 (Or.inl ⟨by assumption, rfl, rfl⟩) (by assumption) | exact pd_sg c_8 (Or.inr ⟨by assumption, rfl, rfl⟩) (by assumption) | exact pd_no (by omega) | (intro hf_; exfalso; unfold ptO at hf_; first | (rw [if_pos c_8] at hf_; cases hf_; done) | (simp [*] at hf_))⟩
  · skip
    refine lv_iconst (v := nI 0) hx hb dX9_textPart_11 (by decide) ?_
    have e_13 : (at_) = ((ptO ch len at_).2) := by first | rfl | (unfold ptO; skip; (try rw [if_pos c_8]); first | done | rfl)
    rw [e_13] at hP hD
    have hP : va_P G.1 vwCl [oM h ad thr sts hs len ((ptO ch len at_).2) (((num, le, fi, se, ti)).1) many, aI G (ad 4) 60 (nF ch), aI G (ad 11) 31 (nF (((num, le, fi, se, ti)).2.1)), aI G (ad 12) 31 (nF (((num, le, fi, se, ti)).2.2.1)), aI G (ad 13) 31 (nF (((num, le, fi, se, ti)).2.2.2.1)), aI G (ad 14) 31 (((num, le, fi, se, ti)).2.2.2.2)] _ := hP
    have hD : va_D A [oM h ad thr sts hs len ((ptO ch len at_).2) (((num, le, fi, se, ti)).1) many, aI G (ad 4) 60 (nF ch), aI G (ad 11) 31 (nF (((num, le, fi, se, ti)).2.1)), aI G (ad 12) 31 (nF (((num, le, fi, se, ti)).2.2.1)), aI G (ad 13) 31 (nF (((num, le, fi, se, ti)).2.2.2.1)), aI G (ad 14) 31 (((num, le, fi, se, ti)).2.2.2.2)] := hD
    rw [hQQ]
    exact rt_z hx hb hr hlk (by first | exact bI_nar _ | rfl) ((num, le, fi, se, ti)) dX9_textPart_12 hP hD hS (by first | exact Nat.le_of_ble_eq_true rfl | (simp only [rm_X9_textPart]; omega)) (by first | exact Nat.le_of_ble_eq_true rfl | (simp only [rm_X9_textPart]; omega)) ⟨(by first | rfl | (unfold ptO; skip; (try rw [if_pos c_8]); first | done | rfl)), by first | exact pd_as c_8 (Or.inl ⟨by assumption, rfl⟩) (by assumption) | exact pd_as c_8 (Or.inr ⟨by assumption, rfl⟩) (by assumption) | exact pd_sg c_8 (Or.inl ⟨by assumption, rfl, rfl⟩) (by assumption) | exact pd_sg c_8 (Or.inr ⟨by assumption, rfl, rfl⟩) (by assumption) | exact pd_no (by omega) | (intro hf_; exfalso; unfold ptO at hf_; first | (rw [if_pos c_8] at hf_; cases hf_; done) | (simp [*] at hf_))⟩
