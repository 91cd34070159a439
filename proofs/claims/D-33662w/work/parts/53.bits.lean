/-! ===== bits: cleared and read ===== -/
def lcI (x y : Int64) : Int32 := if x > y then 1 else if x == y then 0 else -1
theorem lcI_0 {x y : Int64} : lcI x y = 0 ↔ x = y := by
  unfold lcI
  constructor
  · intro h
    by_cases h1 : x > y
    · rw [if_pos h1] at h; exact absurd h (by decide)
    · rw [if_neg h1] at h
      by_cases h2 : (x == y) = true
      · exact beq_iff_eq.mp h2
      · rw [if_neg h2] at h; exact absurd h (by decide)
  · intro h
    subst h
    rw [if_neg (Int64.lt_irrefl), if_pos (beq_self_eq_true _)]
section LCM
variable {p : Program} {l : Launch} {e : Jvm.Env} {R : Room} {s : State} {m : MethodId} {args : Array Value} {below : List Frame} {meth : Method} {c : Code} {H : Heap} {locs : List Loc} {cells slots : Nat} {Q : State → Prop}
variable {cc : ByteArray} {pc : Nat} {ls : Array Slot} {rest : List Value} {D : va_G} {cl : List vw_C} {A : Nat → Prop} {a a0 : Nat} {tys : List (ClassId × FieldType)} {ws : va_W} {H0 : Heap} {own : String} {index : Nat}
theorem L_lcmp (hexec : p.tables.exec = Jvm.exec) (hb : c.code = cc) {x y : Int64} (hdg : decode cc pc = .ok (.lcmp, 1))
    (k : W p l e R s m args below meth c H locs cells slots Q (F0 m (pc + 1) ls (.int (lcI x y) :: rest))) : W p l e R s m args below meth c H locs cells slots Q (F0 m pc ls (.long y :: .long x :: rest)) := by
  intro T hT X
  obtain ⟨t, a, b⟩ := k T hT X
  refine ⟨t, ?_, b⟩
  jvm_step X.here [X.here.top, hexec, hb, hdg]
  unfold lcI at a
  by_cases h1 : y < x
  · rw [if_pos h1]
    rw [if_pos (show x > y from h1)] at a
    exact a
  · rw [if_neg h1]
    rw [if_neg (show ¬ x > y from h1)] at a
    by_cases h2 : x = y
    · rw [if_pos h2]
      rw [if_pos (beq_iff_eq.mpr h2)] at a
      exact a
    · rw [if_neg h2]
      rw [if_neg (fun z => h2 (beq_iff_eq.mp z))] at a
      exact a
end LCM
abbrev anW (w : Nat → Int64) (i : Nat) : Nat → Int64 := vp_updL w (i / 64) (w (i / 64) &&& (bit1 i ^^^ (-1)))
def clW (w : Nat → Int64) (wu i : Nat) : Nat → Int64 := if i / 64 < wu then anW w i else w
def clU (w : Nat → Int64) (wu i : Nat) : Nat := if i / 64 < wu then rcU (anW w i) wu else wu
def gtB (w : Nat → Int64) (wu i : Nat) : Bool := if i / 64 < wu then (if w (i / 64) &&& bit1 i = 0 then false else true) else false
theorem rc_0 {w : Nat → Int64} {k : Nat} (c : lcI (w k) 0 = 0) : rcU w (k + 1) = rcU w k := by
  show (if _ then _ else _) = _
  rw [if_pos (lcI_0.mp c)]
theorem rc_1 {w : Nat → Int64} {k : Nat} (c : ¬ lcI (w k) 0 = 0) : rcU w (k + 1) = k + 1 := by
  show (if _ then _ else _) = _
  rw [if_neg (fun z => c (lcI_0.mpr z))]
theorem rcU_le (w : Nat → Int64) (k : Nat) : rcU w k ≤ k := by
  induction k with
  | zero => exact Nat.le_refl _
  | succ k ih =>
    unfold rcU
    split <;> omega
theorem gt_0 {w : Nat → Int64} {wu i : Nat} (h : wu ≤ i / 64) : nI 0 = bI (gtB w wu i) := by
  unfold gtB
  rw [if_neg (by omega)]
  rfl
theorem gt_1 {w : Nat → Int64} {wu i : Nat} (h : i / 64 < wu) (c : lcI (w (i / 64) &&& bit1 i) 0 = 0) : nI 0 = bI (gtB w wu i) := by
  unfold gtB
  rw [if_pos h, if_pos (lcI_0.mp c)]
  rfl
theorem gt_2 {w : Nat → Int64} {wu i : Nat} (h : i / 64 < wu) (c : ¬ lcI (w (i / 64) &&& bit1 i) 0 = 0) : nI 1 = bI (gtB w wu i) := by
  unfold gtB
  rw [if_pos h, if_neg (fun z => c (lcI_0.mpr z))]
  rfl
def rm_J6_recalculateWordsInUse : Room := ({ frames := 0, cells := 0, slots := 0, locals := 0 } : Room)
set_option maxHeartbeats 400000 in
set_option maxRecDepth 100000 in
theorem t_J6_recalculateWordsInUse (l : Launch) (G : GG) (b0 sz : Nat) (h a n wu : Nat) (w : Nat → Int64) (hn1 : 1 ≤ n) (hn : n ≤ 500) (hwn : wu ≤ n) (hw1 : 1 ≤ wu) : CT l yJ6_recalculateWordsInUse cJ6_recalculateWordsInUse 2 none (rm_J6_recalculateWordsInUse) G b0 [.ref h] [oX h 10 [.ref a, .int (nI wu), .int (bI false)], aJ G a n w] sz (Rv G (fun (_ : Unit) => True) (fun (_ : Unit) => [oX h 10 [.ref a, .int (nI (rcU w wu)), .int (bI false)], aJ G a n w])) := by
  refine CT.go (by decide) (Nat.le_of_ble_eq_true rfl) (fun p e s m below meth c A ls AR QQ hx hb hr hlk hml hown hnm hts hE hA hAb hsz hP hD hS hl hQQ => ?_)
  have hK := hE.1
  have hown : s.vm.findClass RJ6 = some m.cls := hown
  have hl : lv_has ls 2 [(0, .ref h)] := hl
  clear hsz
  refine lv_aload_n hx hb dJ6_recalculateWordsInUse_0 rfl (lv_at hl 0 rfl) ?_
  refine va_get (D := G.1) (ci := 10) (v := .int (nI wu)) (C := RJ6) (T := TJ6) (N := 3) hx hb hts in_J6 hown hK hP 0 rfl rfl 1 (by decide) (hts _ q410) (fun _ h9 => h9) rfl dJ6_recalculateWordsInUse_1 ?_
  refine lv_iconst (v := nI 1) hx hb dJ6_recalculateWordsInUse_4 (by decide) ?_
  refine N_isub hx hb dJ6_recalculateWordsInUse_5 (by omega) ?_
  refine lv_istore_n (lv' := [(1, .int (nI (wu - 1))), (0, .ref h)]) hx hb dJ6_recalculateWordsInUse_6 rfl hl (by decide) rfl (fun ls hl => ?_)
  have lp_7 : ∀ (n_7 : Nat) (k : Nat), (k ≤ wu) → (rcU w k = rcU w wu) → (k) < n_7 → ∀ (H : Heap) (locs : List Loc) (ls : Array Slot), va_P G.1 vwCl [oX h 10 [.ref a, .int (nI wu), .int (bI false)], aJ G a n w] H → va_D A [oX h 10 [.ref a, .int (nI wu), .int (bI false)], aJ G a n w] → va_S A s.heap H locs → lv_has ls 2 [(0, .ref h), (1, .int (nI k - 1))] → W p l e (rm_J6_recalculateWordsInUse) s m AR below meth c H locs 0 0 QQ (F0 m 7 ls []) := by
    intro n_7
    induction n_7 with
    | zero => intro k hk hj hn_; exact absurd hn_ (Nat.not_lt_zero _)
    | succ n_7 ih_7 =>
      intro k hk hj hn_7 H locs ls hP hD hS hl
      refine lv_iload_n hx hb dJ6_recalculateWordsInUse_7 rfl (lv_at hl 1 rfl) ?_
      rcases k with _ | k
      · have hl : lv_has ls 2 [(0, .ref h), (1, .int ((-1)))] := hl
        have hfin : 0 = rcU w wu := hj
        refine W.eq (g2 := F0 m 8 ls [.int ((-1))]) rfl ?_
        refine lv_if_lt (tgt := 31) hx hb dJ6_recalculateWordsInUse_8 (by decide) (fun c_ => ?_) (fun c_ => absurd (show (-1 : Int32) < 0 by decide) c_)
        refine lv_aload_n hx hb dJ6_recalculateWordsInUse_31 rfl (lv_at hl 0 rfl) ?_
        refine lv_iload_n hx hb dJ6_recalculateWordsInUse_32 rfl (lv_at hl 1 rfl) ?_
        refine lv_iconst (v := nI 1) hx hb dJ6_recalculateWordsInUse_33 (by decide) ?_
        refine lv_iadd hx hb dJ6_recalculateWordsInUse_34 ?_
        refine va_put (D := G.1) (ci := 10) (v := .int (((-1)) + (nI 1))) (ty := .int) (C := RJ6) (T := TJ6) (N := 3) hx hb hts in_J6 tyJ6 tyJ6_ok nmJ6 hown hK hP hD hS 0 rfl rfl 1 (by decide) (hts _ q410) (fun _ h9 => h9) rfl (by decide +kernel) rfl rfl (Nat.le_of_ble_eq_true rfl) dJ6_recalculateWordsInUse_35 (fun H locs hP hD hS => ?_)
        have hP : va_P G.1 vwCl [oX h 10 [.ref a, .int (((-1)) + (nI 1)), .int (bI false)], aJ G a n w] _ := hP
        have hD : va_D A [oX h 10 [.ref a, .int (((-1)) + (nI 1)), .int (bI false)], aJ G a n w] := hD
        have e_1 : (((-1)) + (nI 1)) = (nI (rcU w wu)) := by first | (rw [← hfin]; decide) | (rw [← hj]; exact (rc_1 c_19).symm) | (rw [← hj]; exact congrArg nI (rc_1 c_19).symm)
        rw [e_1] at hP hD
        have hP : va_P G.1 vwCl [oX h 10 [.ref a, .int (nI (rcU w wu)), .int (bI false)], aJ G a n w] _ := hP
        have hD : va_D A [oX h 10 [.ref a, .int (nI (rcU w wu)), .int (bI false)], aJ G a n w] := hD
        rw [hQQ]
        exact rt_v hx hb hr hlk (()) dJ6_recalculateWordsInUse_38 hP hD hS (by first | exact Nat.le_of_ble_eq_true rfl | (simp only [rm_J6_recalculateWordsInUse]; omega) | omega) (by first | exact Nat.le_of_ble_eq_true rfl | (simp only [rm_J6_recalculateWordsInUse]; omega) | omega) trivial
      · have hkk : (nI (k + 1) - 1 : Int32) = nI k := pk_sub (a := k + 1) (b := 1) (by omega)
        have hl : lv_has ls 2 [(0, .ref h), (1, .int (nI k))] := by rw [hkk] at hl; exact hl
        refine W.eq (g2 := F0 m 8 ls [.int (nI k)]) (by rw [hkk]) ?_
        refine lv_if_lt (tgt := 31) hx hb dJ6_recalculateWordsInUse_8 (by decide) (fun c_ => absurd c_ (fun z => absurd ((nI_ltI (b := 0) (by omega) (by decide)).mp z) (Nat.not_lt_zero _))) (fun c_ => ?_)
        refine lv_aload_n hx hb dJ6_recalculateWordsInUse_11 rfl (lv_at hl 0 rfl) ?_
        refine va_get (D := G.1) (ci := 10) (v := .ref a) (C := RJ6) (T := TJ6) (N := 3) hx hb hts in_J6 hown hK hP 0 rfl rfl 0 (by decide) (hts _ q409) (fun _ h9 => h9) rfl dJ6_recalculateWordsInUse_12 ?_
        refine lv_iload_n hx hb dJ6_recalculateWordsInUse_15 rfl (lv_at hl 1 rfl) ?_
        refine N_lald hx hb dJ6_recalculateWordsInUse_16 hK hP 1 2 rfl rfl (by omega) (by omega) ?_
        refine lv_lconst (v := 0) hx hb dJ6_recalculateWordsInUse_17 (by decide) ?_
        refine L_lcmp hx hb dJ6_recalculateWordsInUse_18 ?_
        refine lv_if_eq (tgt := 25) hx hb dJ6_recalculateWordsInUse_19 (by decide) (fun c_19 => ?_) (fun c_19 => ?_)
        · skip
          refine lv_iinc (v := (nI k) + (-1)) (k := 1) (lv' := [(1, .int ((nI k) + (-1))), (0, .ref h)]) hx hb dJ6_recalculateWordsInUse_25 hl rfl rfl (by decide) rfl (fun ls hl => ?_)
          refine lv_goto (tgt := 7) hx hb dJ6_recalculateWordsInUse_28 (by decide) ?_
          have hl : lv_has ls 2 [(0, .ref h), (1, .int ((nI k) + (-1)))] := lv_sub hl [1, 0] rfl
          have e_2 : ((nI k) + (-1)) = (nI k - 1) := by exact (Int32.sub_eq_add_neg _ _).symm
          rw [e_2] at hl
          have hl : lv_has ls 2 [(0, .ref h), (1, .int (nI k - 1))] := hl
          exact ih_7 k (by omega) (by rw [← hj]; exact (rc_0 c_19).symm) (by omega) _ _ _ hP hD hS hl
        · skip
          refine lv_goto (tgt := 31) hx hb dJ6_recalculateWordsInUse_22 (by decide) ?_
          refine lv_aload_n hx hb dJ6_recalculateWordsInUse_31 rfl (lv_at hl 0 rfl) ?_
          refine lv_iload_n hx hb dJ6_recalculateWordsInUse_32 rfl (lv_at hl 1 rfl) ?_
          refine lv_iconst (v := nI 1) hx hb dJ6_recalculateWordsInUse_33 (by decide) ?_
          refine N_iadd hx hb dJ6_recalculateWordsInUse_34 ?_
          refine va_put (D := G.1) (ci := 10) (v := .int (nI (k + 1))) (ty := .int) (C := RJ6) (T := TJ6) (N := 3) hx hb hts in_J6 tyJ6 tyJ6_ok nmJ6 hown hK hP hD hS 0 rfl rfl 1 (by decide) (hts _ q410) (fun _ h9 => h9) rfl (by decide +kernel) rfl rfl (Nat.le_of_ble_eq_true rfl) dJ6_recalculateWordsInUse_35 (fun H locs hP hD hS => ?_)
          have hP : va_P G.1 vwCl [oX h 10 [.ref a, .int (nI (k + 1)), .int (bI false)], aJ G a n w] _ := hP
          have hD : va_D A [oX h 10 [.ref a, .int (nI (k + 1)), .int (bI false)], aJ G a n w] := hD
          have e_3 : (k + 1) = (rcU w wu) := by first | (rw [← hfin]; decide) | (rw [← hj]; exact (rc_1 c_19).symm) | (rw [← hj]; exact congrArg nI (rc_1 c_19).symm)
          rw [e_3] at hP hD
          have hP : va_P G.1 vwCl [oX h 10 [.ref a, .int (nI (rcU w wu)), .int (bI false)], aJ G a n w] _ := hP
          have hD : va_D A [oX h 10 [.ref a, .int (nI (rcU w wu)), .int (bI false)], aJ G a n w] := hD
          rw [hQQ]
          exact rt_v hx hb hr hlk (()) dJ6_recalculateWordsInUse_38 hP hD hS (by first | exact Nat.le_of_ble_eq_true rfl | (simp only [rm_J6_recalculateWordsInUse]; omega) | omega) (by first | exact Nat.le_of_ble_eq_true rfl | (simp only [rm_J6_recalculateWordsInUse]; omega) | omega) trivial
  have hl : lv_has ls 2 [(0, .ref h), (1, .int (nI (wu - 1)))] := lv_sub hl [1, 0] rfl
  have e_4 : (nI (wu - 1)) = (nI wu - 1) := by exact (pk_sub (a := wu) (b := 1) hw1).symm
  rw [e_4] at hl
  have hl : lv_has ls 2 [(0, .ref h), (1, .int (nI wu - 1))] := hl
  exact lp_7 _ wu (by omega) (by rfl) (Nat.lt_succ_self _) _ _ _ hP hD hS hl
def rm_J6_clear_2 : Room := ({ frames := 4, cells := 0, slots := 0, locals := 170 } : Room)
set_option maxHeartbeats 400000 in
set_option maxRecDepth 100000 in
theorem t_J6_clear_2 (l : Launch) (G : GG) (b0 sz : Nat) (h a n wu : Nat) (w : Nat → Int64) (i : Nat) (hn1 : 1 ≤ n) (hn : n ≤ 500) (hwn : wu ≤ n) (hi : i < 20000) : CT l yJ6_clear_2 cJ6_clear_2 3 none (rm_J6_clear_2) G b0 [.ref h, .int (nI i)] [oX h 10 [.ref a, .int (nI wu), .int (bI false)], aJ G a n w] sz (Rv G (fun (_ : Unit) => True) (fun (_ : Unit) => [oX h 10 [.ref a, .int (nI (clU w wu i)), .int (bI false)], aJ G a n (clW w wu i)])) := by
  refine CT.go (by decide) (Nat.le_of_ble_eq_true rfl) (fun p e s m below meth c A ls AR QQ hx hb hr hlk hml hown hnm hts hE hA hAb hsz hP hD hS hl hQQ => ?_)
  have hK := hE.1
  have hown : s.vm.findClass RJ6 = some m.cls := hown
  have hl : lv_has ls 3 [(0, .ref h), (1, .int (nI i))] := hl
  clear hsz
  refine lv_iload_n hx hb dJ6_clear_2_0 rfl (lv_at hl 1 rfl) ?_
  refine N_if_ge (tgt := 31) hx hb dJ6_clear_2_1 (by decide) (by omega) ?_
  refine lv_iload_n hx hb dJ6_clear_2_31 rfl (lv_at hl 1 rfl) ?_
  refine fin_i (ws' := (fun (_ : Unit) => [oX h 10 [.ref a, .int (nI wu), .int (bI false)], aJ G a n w])) hA hS hP hD [] rfl [(false, 0), (false, 1)] (fun _ => rfl) (by decide) (run_S (As := [.int (nI i)]) (rest := []) (n9 := 1) hx hb hml hown hts hE hAb hl.1 hS hP hD [] rfl (by decide) (t_J6_wordIndex l G b0 _ i (by omega)) (lw_S q406 q407 q121 q408) ⟨by decide, by decide, by decide +kernel⟩ ⟨Nat.le_of_ble_eq_true rfl, Nat.le_of_ble_eq_true rfl⟩ ⟨by first | exact Nat.le_of_ble_eq_true rfl | (simp only [rm_J6_clear_2, rm_J6_wordIndex]; omega), by first | exact Nat.le_of_ble_eq_true rfl | (simp only [rm_J6_clear_2, rm_J6_wordIndex]; omega)⟩ dJ6_clear_2_32 (Nat.le_of_ble_eq_true rfl) rfl rfl) (fun r_1 u_1 H locs h_1 hP hD hS => ?_)
  have hP : va_P G.1 vwCl [oX h 10 [.ref a, .int (nI wu), .int (bI false)], aJ G a n w] _ := hP
  have hD : va_D A [oX h 10 [.ref a, .int (nI wu), .int (bI false)], aJ G a n w] := hD
  have h_1 : r_1 = (nI (i / 64)) := h_1
  rw [h_1]
  refine lv_istore_n (lv' := [(2, .int (nI (i / 64))), (0, .ref h), (1, .int (nI i))]) hx hb dJ6_clear_2_35 rfl hl (by decide) rfl (fun ls hl => ?_)
  refine lv_iload_n hx hb dJ6_clear_2_36 rfl (lv_at hl 0 rfl) ?_
  refine lv_aload_n hx hb dJ6_clear_2_37 rfl (lv_at hl 1 rfl) ?_
  refine va_get (D := G.1) (ci := 10) (v := .int (nI wu)) (C := RJ6) (T := TJ6) (N := 3) hx hb hts in_J6 hown hK hP 0 rfl rfl 1 (by decide) (hts _ q410) (fun _ h9 => h9) rfl dJ6_clear_2_38 ?_
  refine N_icmp_lt (tgt := 45) hx hb dJ6_clear_2_41 (by decide) (by omega) (by omega) (fun c_41 => ?_) (fun c_41 => ?_)
  · skip
    refine lv_aload_n hx hb dJ6_clear_2_45 rfl (lv_at hl 1 rfl) ?_
    refine va_get (D := G.1) (ci := 10) (v := .ref a) (C := RJ6) (T := TJ6) (N := 3) hx hb hts in_J6 hown hK hP 0 rfl rfl 0 (by decide) (hts _ q409) (fun _ h9 => h9) rfl dJ6_clear_2_46 ?_
    refine lv_iload_n hx hb dJ6_clear_2_49 rfl (lv_at hl 0 rfl) ?_
    refine lv_dup2_11 hx hb dJ6_clear_2_50 rfl rfl ?_
    refine N_lald hx hb dJ6_clear_2_51 hK hP 1 2 rfl rfl (by omega) (by omega) ?_
    refine lv_lconst (v := 1) hx hb dJ6_clear_2_52 (by decide) ?_
    refine lv_iload_n hx hb dJ6_clear_2_53 rfl (lv_at hl 2 rfl) ?_
    refine lv_lshl (v := 1 <<< ((nI i).toInt64 &&& 63)) hx hb dJ6_clear_2_54 rfl ?_
    refine lv_ldc2 (v := (-1)) hx hb hown (hts _ q1155) dJ6_clear_2_55 ?_
    refine lv_lxor hx hb dJ6_clear_2_58 ?_
    refine lv_land hx hb dJ6_clear_2_59 ?_
    refine N_last (ws' := [oX h 10 [.ref a, .int (nI wu), .int (bI false)], aJ G a n (vp_updL w (i / 64) ((w (i / 64)) &&& ((1 <<< ((nI i).toInt64 &&& 63)) ^^^ ((-1)))))]) hx hb dJ6_clear_2_60 hK hP hD hS 1 2 rfl rfl (by omega) (by omega) rfl (fun H locs hP hD hS => ?_)
    refine lv_aload_n hx hb dJ6_clear_2_61 rfl (lv_at hl 1 rfl) ?_
    refine fin_v (ws' := (fun (_ : Unit) => [oX h 10 [.ref a, .int (nI (rcU (vp_updL w (i / 64) ((w (i / 64)) &&& ((1 <<< ((nI i).toInt64 &&& 63)) ^^^ ((-1))))) wu)), .int (bI false)], aJ G a n (vp_updL w (i / 64) ((w (i / 64)) &&& ((1 <<< ((nI i).toInt64 &&& 63)) ^^^ ((-1)))))])) hA hS hP hD [0, 1] rfl [(true, 0), (true, 1)] (fun _ => rfl) (by decide) (run_V (As := []) (rest := []) (n9 := 0) hx hb hml hown hts hE hAb hl.1 hS hP hD [0, 1] rfl (by decide) (t_J6_recalculateWordsInUse l G b0 _ h a n wu (vp_updL w (i / 64) ((w (i / 64)) &&& ((1 <<< ((nI i).toInt64 &&& 63)) ^^^ ((-1))))) (by omega) (by omega) (by omega) (by omega)) (lw_V q1156 q1158 qs27 q121 q1159) 0 rfl rfl ⟨rfl, by decide, by decide, by decide +kernel⟩ ⟨Nat.le_of_ble_eq_true rfl, Nat.le_of_ble_eq_true rfl⟩ ⟨by first | exact Nat.le_of_ble_eq_true rfl | (simp only [rm_J6_clear_2, rm_J6_recalculateWordsInUse, rm_J6_wordIndex]; omega), by first | exact Nat.le_of_ble_eq_true rfl | (simp only [rm_J6_clear_2, rm_J6_recalculateWordsInUse, rm_J6_wordIndex]; omega)⟩ dJ6_clear_2_62 (Nat.le_of_ble_eq_true rfl) rfl rfl) (fun u_2 H locs h_2 hP hD hS => ?_)
    have hP : va_P G.1 vwCl [oX h 10 [.ref a, .int (nI (rcU (vp_updL w (i / 64) ((w (i / 64)) &&& ((1 <<< ((nI i).toInt64 &&& 63)) ^^^ ((-1))))) wu)), .int (bI false)], aJ G a n (vp_updL w (i / 64) ((w (i / 64)) &&& ((1 <<< ((nI i).toInt64 &&& 63)) ^^^ ((-1)))))] _ := hP
    have hD : va_D A [oX h 10 [.ref a, .int (nI (rcU (vp_updL w (i / 64) ((w (i / 64)) &&& ((1 <<< ((nI i).toInt64 &&& 63)) ^^^ ((-1))))) wu)), .int (bI false)], aJ G a n (vp_updL w (i / 64) ((w (i / 64)) &&& ((1 <<< ((nI i).toInt64 &&& 63)) ^^^ ((-1)))))] := hD
    refine lv_aload_n hx hb dJ6_clear_2_65 rfl (lv_at hl 1 rfl) ?_
    refine fin_v (ws' := (fun (_ : Unit) => [oX h 10 [.ref a, .int (nI (rcU (vp_updL w (i / 64) ((w (i / 64)) &&& ((1 <<< ((nI i).toInt64 &&& 63)) ^^^ ((-1))))) wu)), .int (bI false)], aJ G a n (vp_updL w (i / 64) ((w (i / 64)) &&& ((1 <<< ((nI i).toInt64 &&& 63)) ^^^ ((-1)))))])) hA hS hP hD [0, 1] rfl [(true, 0), (true, 1)] (fun _ => rfl) (by decide) (run_V (As := []) (rest := []) (n9 := 0) hx hb hml hown hts hE hAb hl.1 hS hP hD [0, 1] rfl (by decide) (t_J6_checkInvariants l G b0 _ h a n (rcU (vp_updL w (i / 64) ((w (i / 64)) &&& ((1 <<< ((nI i).toInt64 &&& 63)) ^^^ ((-1))))) wu) (vp_updL w (i / 64) ((w (i / 64)) &&& ((1 <<< ((nI i).toInt64 &&& 63)) ^^^ ((-1))))) ) (lw_V q1145 q1147 qs26 q121 q1148) 0 rfl rfl ⟨rfl, by decide, by decide, by decide +kernel⟩ ⟨Nat.le_of_ble_eq_true rfl, Nat.le_of_ble_eq_true rfl⟩ ⟨by first | exact Nat.le_of_ble_eq_true rfl | (simp only [rm_J6_clear_2, rm_J6_checkInvariants, rm_J6_wordIndex, rm_J6_recalculateWordsInUse]; omega), by first | exact Nat.le_of_ble_eq_true rfl | (simp only [rm_J6_clear_2, rm_J6_checkInvariants, rm_J6_wordIndex, rm_J6_recalculateWordsInUse]; omega)⟩ dJ6_clear_2_66 (Nat.le_of_ble_eq_true rfl) rfl rfl) (fun u_3 H locs h_3 hP hD hS => ?_)
    have hP : va_P G.1 vwCl [oX h 10 [.ref a, .int (nI (rcU (vp_updL w (i / 64) ((w (i / 64)) &&& ((1 <<< ((nI i).toInt64 &&& 63)) ^^^ ((-1))))) wu)), .int (bI false)], aJ G a n (vp_updL w (i / 64) ((w (i / 64)) &&& ((1 <<< ((nI i).toInt64 &&& 63)) ^^^ ((-1)))))] _ := hP
    have hD : va_D A [oX h 10 [.ref a, .int (nI (rcU (vp_updL w (i / 64) ((w (i / 64)) &&& ((1 <<< ((nI i).toInt64 &&& 63)) ^^^ ((-1))))) wu)), .int (bI false)], aJ G a n (vp_updL w (i / 64) ((w (i / 64)) &&& ((1 <<< ((nI i).toInt64 &&& 63)) ^^^ ((-1)))))] := hD
    have e_4 : (rcU (vp_updL w (i / 64) ((w (i / 64)) &&& ((1 <<< ((nI i).toInt64 &&& 63)) ^^^ ((-1))))) wu) = (clU w wu i) := by first | exact (if_pos (by omega)).symm | exact (if_neg (by omega)).symm
    rw [e_4] at hP hD
    have e_5 : (vp_updL w (i / 64) ((w (i / 64)) &&& ((1 <<< ((nI i).toInt64 &&& 63)) ^^^ ((-1))))) = (clW w wu i) := by first | exact (if_pos (by omega)).symm | exact (if_neg (by omega)).symm
    rw [show aJ G a n (vp_updL w (i / 64) ((w (i / 64)) &&& ((1 <<< ((nI i).toInt64 &&& 63)) ^^^ ((-1))))) = aJ G a n (clW w wu i) from congrArg (aJ G a n) e_5] at hP hD
    have hP : va_P G.1 vwCl [oX h 10 [.ref a, .int (nI (clU w wu i)), .int (bI false)], aJ G a n (clW w wu i)] _ := hP
    have hD : va_D A [oX h 10 [.ref a, .int (nI (clU w wu i)), .int (bI false)], aJ G a n (clW w wu i)] := hD
    rw [hQQ]
    exact rt_v hx hb hr hlk (()) dJ6_clear_2_69 hP hD hS (by first | exact Nat.le_of_ble_eq_true rfl | (simp only [rm_J6_clear_2, rm_J6_wordIndex, rm_J6_recalculateWordsInUse, rm_J6_checkInvariants]; omega) | omega) (by first | exact Nat.le_of_ble_eq_true rfl | (simp only [rm_J6_clear_2, rm_J6_wordIndex, rm_J6_recalculateWordsInUse, rm_J6_checkInvariants]; omega) | omega) trivial
  · skip
    have e_6 : (wu) = (clU w wu i) := by first | exact (if_pos (by omega)).symm | exact (if_neg (by omega)).symm
    rw [e_6] at hP hD
    have e_7 : (w) = (clW w wu i) := by first | exact (if_pos (by omega)).symm | exact (if_neg (by omega)).symm
    rw [show aJ G a n w = aJ G a n (clW w wu i) from congrArg (aJ G a n) e_7] at hP hD
    have hP : va_P G.1 vwCl [oX h 10 [.ref a, .int (nI (clU w wu i)), .int (bI false)], aJ G a n (clW w wu i)] _ := hP
    have hD : va_D A [oX h 10 [.ref a, .int (nI (clU w wu i)), .int (bI false)], aJ G a n (clW w wu i)] := hD
    rw [hQQ]
    exact rt_v hx hb hr hlk (()) dJ6_clear_2_44 hP hD hS (by first | exact Nat.le_of_ble_eq_true rfl | (simp only [rm_J6_clear_2, rm_J6_wordIndex, rm_J6_recalculateWordsInUse, rm_J6_checkInvariants]; omega) | omega) (by first | exact Nat.le_of_ble_eq_true rfl | (simp only [rm_J6_clear_2, rm_J6_wordIndex, rm_J6_recalculateWordsInUse, rm_J6_checkInvariants]; omega) | omega) trivial
def rm_J6_get : Room := ({ frames := 2, cells := 0, slots := 0, locals := 80 } : Room)
set_option maxHeartbeats 400000 in
set_option maxRecDepth 100000 in
theorem t_J6_get (l : Launch) (G : GG) (b0 sz : Nat) (h a n wu : Nat) (w : Nat → Int64) (i : Nat) (hn1 : 1 ≤ n) (hn : n ≤ 500) (hwn : wu ≤ n) (hi : i < 20000) : CT l yJ6_get cJ6_get 3 (some FieldType.boolean) (rm_J6_get) G b0 [.ref h, .int (nI i)] [oX h 10 [.ref a, .int (nI wu), .int (bI false)], aJ G a n w] sz (Ri G (fun (r_ : Int32) (_ : Unit) => r_ = bI (gtB w wu i)) (fun (_ : Unit) => [oX h 10 [.ref a, .int (nI wu), .int (bI false)], aJ G a n w])) := by
  refine CT.go (by decide) (Nat.le_of_ble_eq_true rfl) (fun p e s m below meth c A ls AR QQ hx hb hr hlk hml hown hnm hts hE hA hAb hsz hP hD hS hl hQQ => ?_)
  have hK := hE.1
  have hown : s.vm.findClass RJ6 = some m.cls := hown
  have hl : lv_has ls 3 [(0, .ref h), (1, .int (nI i))] := hl
  clear hsz
  refine lv_iload_n hx hb dJ6_get_0 rfl (lv_at hl 1 rfl) ?_
  refine N_if_ge (tgt := 31) hx hb dJ6_get_1 (by decide) (by omega) ?_
  refine lv_aload_n hx hb dJ6_get_31 rfl (lv_at hl 0 rfl) ?_
  refine fin_v (ws' := (fun (_ : Unit) => [oX h 10 [.ref a, .int (nI wu), .int (bI false)], aJ G a n w])) hA hS hP hD [0, 1] rfl [(true, 0), (true, 1)] (fun _ => rfl) (by decide) (run_V (As := []) (rest := []) (n9 := 0) hx hb hml hown hts hE hAb hl.1 hS hP hD [0, 1] rfl (by decide) (t_J6_checkInvariants l G b0 _ h a n wu w ) (lw_V q1145 q1147 qs26 q121 q1148) 0 rfl rfl ⟨rfl, by decide, by decide, by decide +kernel⟩ ⟨Nat.le_of_ble_eq_true rfl, Nat.le_of_ble_eq_true rfl⟩ ⟨by first | exact Nat.le_of_ble_eq_true rfl | (simp only [rm_J6_get, rm_J6_checkInvariants]; omega), by first | exact Nat.le_of_ble_eq_true rfl | (simp only [rm_J6_get, rm_J6_checkInvariants]; omega)⟩ dJ6_get_32 (Nat.le_of_ble_eq_true rfl) rfl rfl) (fun u_1 H locs h_1 hP hD hS => ?_)
  have hP : va_P G.1 vwCl [oX h 10 [.ref a, .int (nI wu), .int (bI false)], aJ G a n w] _ := hP
  have hD : va_D A [oX h 10 [.ref a, .int (nI wu), .int (bI false)], aJ G a n w] := hD
  refine lv_iload_n hx hb dJ6_get_35 rfl (lv_at hl 1 rfl) ?_
  refine fin_i (ws' := (fun (_ : Unit) => [oX h 10 [.ref a, .int (nI wu), .int (bI false)], aJ G a n w])) hA hS hP hD [] rfl [(false, 0), (false, 1)] (fun _ => rfl) (by decide) (run_S (As := [.int (nI i)]) (rest := []) (n9 := 1) hx hb hml hown hts hE hAb hl.1 hS hP hD [] rfl (by decide) (t_J6_wordIndex l G b0 _ i (by omega)) (lw_S q406 q407 q121 q408) ⟨by decide, by decide, by decide +kernel⟩ ⟨Nat.le_of_ble_eq_true rfl, Nat.le_of_ble_eq_true rfl⟩ ⟨by first | exact Nat.le_of_ble_eq_true rfl | (simp only [rm_J6_get, rm_J6_wordIndex, rm_J6_checkInvariants]; omega), by first | exact Nat.le_of_ble_eq_true rfl | (simp only [rm_J6_get, rm_J6_wordIndex, rm_J6_checkInvariants]; omega)⟩ dJ6_get_36 (Nat.le_of_ble_eq_true rfl) rfl rfl) (fun r_2 u_2 H locs h_2 hP hD hS => ?_)
  have hP : va_P G.1 vwCl [oX h 10 [.ref a, .int (nI wu), .int (bI false)], aJ G a n w] _ := hP
  have hD : va_D A [oX h 10 [.ref a, .int (nI wu), .int (bI false)], aJ G a n w] := hD
  have h_2 : r_2 = (nI (i / 64)) := h_2
  rw [h_2]
  refine lv_istore_n (lv' := [(2, .int (nI (i / 64))), (0, .ref h), (1, .int (nI i))]) hx hb dJ6_get_39 rfl hl (by decide) rfl (fun ls hl => ?_)
  refine lv_iload_n hx hb dJ6_get_40 rfl (lv_at hl 0 rfl) ?_
  refine lv_aload_n hx hb dJ6_get_41 rfl (lv_at hl 1 rfl) ?_
  refine va_get (D := G.1) (ci := 10) (v := .int (nI wu)) (C := RJ6) (T := TJ6) (N := 3) hx hb hts in_J6 hown hK hP 0 rfl rfl 1 (by decide) (hts _ q410) (fun _ h9 => h9) rfl dJ6_get_42 ?_
  refine N_icmp_ge (tgt := 67) hx hb dJ6_get_45 (by decide) (by omega) (by omega) (fun c_45 => ?_) (fun c_45 => ?_)
  · skip
    refine lv_iconst (v := nI 0) hx hb dJ6_get_67 (by decide) ?_
    rw [hQQ]
    exact rt_z hx hb hr hlk (by first | exact bI_nar _ | rfl) (()) dJ6_get_68 hP hD hS (by first | exact Nat.le_of_ble_eq_true rfl | (simp only [rm_J6_get, rm_J6_checkInvariants, rm_J6_wordIndex]; omega) | omega) (by first | exact Nat.le_of_ble_eq_true rfl | (simp only [rm_J6_get, rm_J6_checkInvariants, rm_J6_wordIndex]; omega) | omega) (by first | exact gt_0 (by omega) | exact gt_1 (by omega) c_60 | exact gt_2 (by omega) c_60)
  · skip
    refine lv_aload_n hx hb dJ6_get_48 rfl (lv_at hl 1 rfl) ?_
    refine va_get (D := G.1) (ci := 10) (v := .ref a) (C := RJ6) (T := TJ6) (N := 3) hx hb hts in_J6 hown hK hP 0 rfl rfl 0 (by decide) (hts _ q409) (fun _ h9 => h9) rfl dJ6_get_49 ?_
    refine lv_iload_n hx hb dJ6_get_52 rfl (lv_at hl 0 rfl) ?_
    refine N_lald hx hb dJ6_get_53 hK hP 1 2 rfl rfl (by omega) (by omega) ?_
    refine lv_lconst (v := 1) hx hb dJ6_get_54 (by decide) ?_
    refine lv_iload_n hx hb dJ6_get_55 rfl (lv_at hl 2 rfl) ?_
    refine lv_lshl (v := 1 <<< ((nI i).toInt64 &&& 63)) hx hb dJ6_get_56 rfl ?_
    refine lv_land hx hb dJ6_get_57 ?_
    refine lv_lconst (v := 0) hx hb dJ6_get_58 (by decide) ?_
    refine L_lcmp hx hb dJ6_get_59 ?_
    refine lv_if_eq (tgt := 67) hx hb dJ6_get_60 (by decide) (fun c_60 => ?_) (fun c_60 => ?_)
    · skip
      refine lv_iconst (v := nI 0) hx hb dJ6_get_67 (by decide) ?_
      rw [hQQ]
      exact rt_z hx hb hr hlk (by first | exact bI_nar _ | rfl) (()) dJ6_get_68 hP hD hS (by first | exact Nat.le_of_ble_eq_true rfl | (simp only [rm_J6_get, rm_J6_checkInvariants, rm_J6_wordIndex]; omega) | omega) (by first | exact Nat.le_of_ble_eq_true rfl | (simp only [rm_J6_get, rm_J6_checkInvariants, rm_J6_wordIndex]; omega) | omega) (by first | exact gt_0 (by omega) | exact gt_1 (by omega) c_60 | exact gt_2 (by omega) c_60)
    · skip
      refine lv_iconst (v := nI 1) hx hb dJ6_get_63 (by decide) ?_
      refine lv_goto (tgt := 68) hx hb dJ6_get_64 (by decide) ?_
      rw [hQQ]
      exact rt_z hx hb hr hlk (by first | exact bI_nar _ | rfl) (()) dJ6_get_68 hP hD hS (by first | exact Nat.le_of_ble_eq_true rfl | (simp only [rm_J6_get, rm_J6_checkInvariants, rm_J6_wordIndex]; omega) | omega) (by first | exact Nat.le_of_ble_eq_true rfl | (simp only [rm_J6_get, rm_J6_checkInvariants, rm_J6_wordIndex]; omega) | omega) (by first | exact gt_0 (by omega) | exact gt_1 (by omega) c_60 | exact gt_2 (by omega) c_60)
