/-! ===== the component: undo, the snapshot, texts ===== -/
theorem pr_len {ch : Nat → Nat} {len : Nat} : (prR ch len).1 = true → (prR ch len).2.1 = len := by
  have key : ∀ (f i m : Nat), (prF ch len f i m).1 = true → (prF ch len f i m).2.1 = len := by
    intro f
    induction f with
    | zero => intro i m h; cases h
    | succ f ih =>
      intro i m h
      unfold prF at h ⊢
      by_cases c : (ptO ch len i).1 = true
      · rw [if_pos c] at h ⊢
        by_cases d : sgB ch len (ptO ch len i).2 59 = true
        · rw [if_pos d] at h ⊢
          exact ih _ _ h
        · rw [if_neg d] at h ⊢
          exact of_decide_eq_true h
      · rw [if_neg c] at h
        cases h
  exact key 61 0 0
theorem CT.imp_i {l : Launch} {y : MethodName} {cc : ByteArray} {mL : Nat} {rt : Option FieldType} {rm : Room} {G : GG} {b0 : Nat} {av : List Value} {w : va_W} {sz : Nat} {S S' : Type} {P : Int32 → S → Prop} {P' : Int32 → S' → Prop} {wp : S → va_W} {wp' : S' → va_W} (h : CT l y cc mL rt rm G b0 av w sz (Ri G P wp)) (hw : ∀ r u, P r u → ∃ u', P' r u' ∧ wp' u' = wp u) : CT l y cc mL rt rm G b0 av w sz (Ri G P' wp') := by
  intro p e ha hc hk s m args below hf happ hP hK
  obtain ⟨n, o, g1, g2, g3, hq⟩ := h p e ha hc hk s m args below hf happ hP hK
  refine ⟨n, o, g1, g2, g3, ?_⟩
  obtain ⟨⟨⟨r, u, h1, h2, h3⟩, h4⟩, h5⟩ := hq
  obtain ⟨u', e1, e2⟩ := hw r u h2
  refine ⟨⟨⟨r, u', h1, e1, ?_⟩, h4⟩, h5⟩
  show Po G (wp' u') _ _
  rw [e2]
  exact h3
theorem sv_u {xs : List svR} {x : svR} {ef : Nat → Option Nat} (h1 : ∀ j y, (x :: xs)[j]? = some y → ef ((x :: xs).length - 1 - j) = some y.1) (h2 : ∀ j, (x :: xs).length ≤ j → ef j = none) : ef (xs.length + 1 - 1) = some x.1 ∧ (∀ j y, xs[j]? = some y → va_up ef (xs.length + 1 - 1) none (xs.length - 1 - j) = some y.1) ∧ (∀ j, xs.length ≤ j → va_up ef (xs.length + 1 - 1) none j = none) := by
  refine ⟨h1 0 x rfl, fun j y hj => ?_, fun j hj => ?_⟩
  · have hl := (List.getElem?_eq_some_iff.mp hj).1
    rw [va_up_ne _ _ (by omega)]
    have h := h1 (j + 1) y hj
    have e : (x :: xs).length - 1 - (j + 1) = xs.length - 1 - j := by
      show xs.length + 1 - 1 - (j + 1) = _
      omega
    rw [← e]
    exact h
  · by_cases c : j = xs.length
    · rw [c, show xs.length + 1 - 1 = xs.length by omega]
      exact va_up_self _ _ _
    · rw [va_up_ne _ _ (by omega)]
      exact h2 j (by show xs.length + 1 ≤ j; omega)
def rm_X1_undo_w : Room := ({ frames := 3, cells := 0, slots := 0, locals := 113 } : Room)
set_option maxHeartbeats 400000 in
set_option maxRecDepth 100000 in
theorem t_X1_undo_w (l : Launch) (G : GG) (b0 sz : Nat) (h : Nat) (ad : Nat → Nat) (sn : Value) (hsh : Int64) (L : Nat) (stp why : Int32) (st : Nat → Int32) (mc : Int32) (ea k : Nat) (ef : Nat → Option Nat) (q qa qL : Nat) (qs qw : Int32) (qf : Nat → Int32) (tl : va_W) (hk1 : 1 ≤ k) (hk : k ≤ 6) (he : ef (k - 1) = some q) : CT l yX1_undo cX1_undo 1 (some FieldType.int) (rm_X1_undo_w) G b0 [.ref h] ([oC h ad sn hsh, oX (ad 1) 1 [.ref (ad 11), .int (nI L), .int stp, .int why], aI G (ad 11) 64 st, oX (ad 9) 11 [.int mc, .ref ea, .int (nI k)], aO G ea 10 ef, oX q 1 [.ref qa, .int (nI qL), .int qs, .int qw], aI G qa 64 qf] ++ tl) sz (Ri G (fun (r_ : Int32) (_ : Unit) => r_ = nI (k - 1)) (fun (_ : Unit) => ([oC h ad sn hsh, oX (ad 1) 1 [.ref (ad 11), .int (nI qL), .int qs, .int qw], aI G (ad 11) 64 qf, oX (ad 9) 11 [.int (mc + nI 1), .ref ea, .int (nI (k - 1))], aO G ea 10 (va_up ef (k - 1) none)] ++ tl))) := by
  refine CT.go (by decide) (Nat.le_of_ble_eq_true rfl) (fun p e s m below meth c A ls AR QQ hx hb hr hlk hml hown hnm hts hE hA hAb hsz hP hD hS hl hQQ => ?_)
  have hK := hE.1
  have hown : s.vm.findClass RX1 = some m.cls := hown
  have hl : lv_has ls 1 [(0, .ref h)] := hl
  clear hsz
  refine lv_aload_n hx hb dX1_undo_0 rfl (lv_at hl 0 rfl) ?_
  refine va_get (D := G.1) (ci := 0) (v := .ref (ad 9)) (C := RX1) (T := TX1) (N := 12) hx hb hts in_X1 hown hK hP 0 rfl rfl 8 (by decide) (hts _ q502) (fun _ h9 => h9) rfl dX1_undo_1 ?_
  have hF_1 := fr_free (wc := [oX (ad 9) 11 [.int mc, .ref ea, .int (nI k)]]) [3] rfl hA hS hD
  refine fin_iF (ws' := (fun (_ : Unit) => ([oC h ad sn hsh, oX (ad 1) 1 [.ref (ad 11), .int (nI L), .int stp, .int why], aI G (ad 11) 64 st, oX (ad 9) 11 [.int mc, .ref ea, .int (nI k)], aO G ea 10 ef, oX q 1 [.ref qa, .int (nI qL), .int qs, .int qw], aI G qa 64 qf] ++ tl))) hS hF_1 (run_V (As := []) (rest := []) (n9 := 0) hx hb hml hown hts hE hAb hl.1 hS hP hD [3] rfl (by decide) (t_J9_isEmpty l G b0 _ (ad 9) ea k mc (by omega)) (lw_V q1508 q1509 q1510 q124 q1511) 3 rfl rfl ⟨rfl, by decide, by decide, by decide +kernel⟩ ⟨Nat.le_of_ble_eq_true rfl, Nat.le_of_ble_eq_true rfl⟩ ⟨by first | exact Nat.le_of_ble_eq_true rfl | (simp only [rm_X1_undo_w, rm_J9_isEmpty]; omega), by first | exact Nat.le_of_ble_eq_true rfl | (simp only [rm_X1_undo_w, rm_J9_isEmpty]; omega)⟩ dX1_undo_4 (Nat.le_of_ble_eq_true rfl) rfl rfl) (fun _ H1_ hk_ hp_ hd_ => fr_selT (ws := [oC h ad sn hsh, oX (ad 1) 1 [.ref (ad 11), .int (nI L), .int stp, .int why], aI G (ad 11) 64 st, oX (ad 9) 11 [.int mc, .ref ea, .int (nI k)], aO G ea 10 ef, oX q 1 [.ref qa, .int (nI qL), .int qs, .int qw], aI G qa 64 qf]) (wc := [oX (ad 9) 11 [.int mc, .ref ea, .int (nI k)]]) (ws' := [oC h ad sn hsh, oX (ad 1) 1 [.ref (ad 11), .int (nI L), .int stp, .int why], aI G (ad 11) 64 st, oX (ad 9) 11 [.int mc, .ref ea, .int (nI k)], aO G ea 10 ef, oX q 1 [.ref qa, .int (nI qL), .int qs, .int qw], aI G qa 64 qf]) (tl := tl) [3] [(false, 0), (false, 1), (false, 2), (true, 0), (false, 4), (false, 5), (false, 6)] rfl rfl (by decide) hP hD hk_ hF_1 hp_ hd_) (fun r_1 u_1 H locs h_1 hP hD hS => ?_)
  have hP : va_P G.1 vwCl ([oC h ad sn hsh, oX (ad 1) 1 [.ref (ad 11), .int (nI L), .int stp, .int why], aI G (ad 11) 64 st, oX (ad 9) 11 [.int mc, .ref ea, .int (nI k)], aO G ea 10 ef, oX q 1 [.ref qa, .int (nI qL), .int qs, .int qw], aI G qa 64 qf] ++ tl) _ := hP
  have hD : va_D A ([oC h ad sn hsh, oX (ad 1) 1 [.ref (ad 11), .int (nI L), .int stp, .int why], aI G (ad 11) 64 st, oX (ad 9) 11 [.int mc, .ref ea, .int (nI k)], aO G ea 10 ef, oX q 1 [.ref qa, .int (nI qL), .int qs, .int qw], aI G qa 64 qf] ++ tl) := hD
  have h_1 : r_1 = (bI (decide (k = 0))) := h_1
  rw [h_1]
  refine B_if_ne (tgt := 14) hx hb dX1_undo_7 (by decide) (fun c_7 => ?_) (fun c_7 => ?_)
  · skip
    exfalso; exact absurd (of_decide_eq_true c_7) (by omega)
  · skip
    refine lv_iconst (v := nI 1) hx hb dX1_undo_10 (by decide) ?_
    refine lv_goto (tgt := 15) hx hb dX1_undo_11 (by decide) ?_
    refine W.eq (g2 := F0 m 15 ls [.int (bI true)]) rfl ?_
    have hF_2 := fr_free (wc := []) [] rfl hA hS hD
    refine fin_vF (ws' := (fun (_ : Unit) => ([oC h ad sn hsh, oX (ad 1) 1 [.ref (ad 11), .int (nI L), .int stp, .int why], aI G (ad 11) 64 st, oX (ad 9) 11 [.int mc, .ref ea, .int (nI k)], aO G ea 10 ef, oX q 1 [.ref qa, .int (nI qL), .int qs, .int qw], aI G qa 64 qf] ++ tl))) hS hF_2 (run_S (As := [.int (bI true)]) (rest := []) (n9 := 1) hx hb hml hown hts hE hAb hl.1 hS hP hD [] rfl (by decide) (t_X1_needState_t l G b0 _  ) (lw_S q1392 q1393 q106 q1394) ⟨by decide, by decide, by decide +kernel⟩ ⟨Nat.le_of_ble_eq_true rfl, Nat.le_of_ble_eq_true rfl⟩ ⟨by first | exact Nat.le_of_ble_eq_true rfl | (simp only [rm_X1_undo_w, rm_X1_needState_t, rm_J9_isEmpty]; omega), by first | exact Nat.le_of_ble_eq_true rfl | (simp only [rm_X1_undo_w, rm_X1_needState_t, rm_J9_isEmpty]; omega)⟩ dX1_undo_15 (Nat.le_of_ble_eq_true rfl) rfl rfl) (fun _ H1_ hk_ hp_ hd_ => fr_selT (ws := [oC h ad sn hsh, oX (ad 1) 1 [.ref (ad 11), .int (nI L), .int stp, .int why], aI G (ad 11) 64 st, oX (ad 9) 11 [.int mc, .ref ea, .int (nI k)], aO G ea 10 ef, oX q 1 [.ref qa, .int (nI qL), .int qs, .int qw], aI G qa 64 qf]) (wc := []) (ws' := [oC h ad sn hsh, oX (ad 1) 1 [.ref (ad 11), .int (nI L), .int stp, .int why], aI G (ad 11) 64 st, oX (ad 9) 11 [.int mc, .ref ea, .int (nI k)], aO G ea 10 ef, oX q 1 [.ref qa, .int (nI qL), .int qs, .int qw], aI G qa 64 qf]) (tl := tl) [] [(false, 0), (false, 1), (false, 2), (false, 3), (false, 4), (false, 5), (false, 6)] rfl rfl (by decide) hP hD hk_ hF_2 hp_ hd_) (fun u_2 H locs h_2 hP hD hS => ?_)
    have hP : va_P G.1 vwCl ([oC h ad sn hsh, oX (ad 1) 1 [.ref (ad 11), .int (nI L), .int stp, .int why], aI G (ad 11) 64 st, oX (ad 9) 11 [.int mc, .ref ea, .int (nI k)], aO G ea 10 ef, oX q 1 [.ref qa, .int (nI qL), .int qs, .int qw], aI G qa 64 qf] ++ tl) _ := hP
    have hD : va_D A ([oC h ad sn hsh, oX (ad 1) 1 [.ref (ad 11), .int (nI L), .int stp, .int why], aI G (ad 11) 64 st, oX (ad 9) 11 [.int mc, .ref ea, .int (nI k)], aO G ea 10 ef, oX q 1 [.ref qa, .int (nI qL), .int qs, .int qw], aI G qa 64 qf] ++ tl) := hD
    refine lv_aload_n hx hb dX1_undo_18 rfl (lv_at hl 0 rfl) ?_
    refine va_get (D := G.1) (ci := 0) (v := .ref (ad 1)) (C := RX1) (T := TX1) (N := 12) hx hb hts in_X1 hown hK hP 0 rfl rfl 0 (by decide) (hts _ q494) (fun _ h9 => h9) rfl dX1_undo_19 ?_
    refine lv_aload_n hx hb dX1_undo_22 rfl (lv_at hl 0 rfl) ?_
    refine va_get (D := G.1) (ci := 0) (v := .ref (ad 9)) (C := RX1) (T := TX1) (N := 12) hx hb hts in_X1 hown hK hP 0 rfl rfl 8 (by decide) (hts _ q502) (fun _ h9 => h9) rfl dX1_undo_23 ?_
    refine lv_aload_n hx hb dX1_undo_26 rfl (lv_at hl 0 rfl) ?_
    refine va_get (D := G.1) (ci := 0) (v := .ref (ad 9)) (C := RX1) (T := TX1) (N := 12) hx hb hts in_X1 hown hK hP 0 rfl rfl 8 (by decide) (hts _ q502) (fun _ h9 => h9) rfl dX1_undo_27 ?_
    have hF_3 := fr_free (wc := [oX (ad 9) 11 [.int mc, .ref ea, .int (nI k)]]) [3] rfl hA hS hD
    refine fin_iF (ws' := (fun (_ : Unit) => ([oC h ad sn hsh, oX (ad 1) 1 [.ref (ad 11), .int (nI L), .int stp, .int why], aI G (ad 11) 64 st, oX (ad 9) 11 [.int mc, .ref ea, .int (nI k)], aO G ea 10 ef, oX q 1 [.ref qa, .int (nI qL), .int qs, .int qw], aI G qa 64 qf] ++ tl))) hS hF_3 (run_V (As := []) (rest := [.ref (ad 9), .ref (ad 1)]) (n9 := 0) hx hb hml hown hts hE hAb hl.1 hS hP hD [3] rfl (by decide) (t_J9_size l G b0 _ (ad 9) ea k mc ) (lw_V q540 q541 q542 q124 q543) 3 rfl rfl ⟨rfl, by decide, by decide, by decide +kernel⟩ ⟨Nat.le_of_ble_eq_true rfl, Nat.le_of_ble_eq_true rfl⟩ ⟨by first | exact Nat.le_of_ble_eq_true rfl | (simp only [rm_X1_undo_w, rm_J9_size, rm_J9_isEmpty, rm_X1_needState_t]; omega), by first | exact Nat.le_of_ble_eq_true rfl | (simp only [rm_X1_undo_w, rm_J9_size, rm_J9_isEmpty, rm_X1_needState_t]; omega)⟩ dX1_undo_30 (Nat.le_of_ble_eq_true rfl) rfl rfl) (fun _ H1_ hk_ hp_ hd_ => fr_selT (ws := [oC h ad sn hsh, oX (ad 1) 1 [.ref (ad 11), .int (nI L), .int stp, .int why], aI G (ad 11) 64 st, oX (ad 9) 11 [.int mc, .ref ea, .int (nI k)], aO G ea 10 ef, oX q 1 [.ref qa, .int (nI qL), .int qs, .int qw], aI G qa 64 qf]) (wc := [oX (ad 9) 11 [.int mc, .ref ea, .int (nI k)]]) (ws' := [oC h ad sn hsh, oX (ad 1) 1 [.ref (ad 11), .int (nI L), .int stp, .int why], aI G (ad 11) 64 st, oX (ad 9) 11 [.int mc, .ref ea, .int (nI k)], aO G ea 10 ef, oX q 1 [.ref qa, .int (nI qL), .int qs, .int qw], aI G qa 64 qf]) (tl := tl) [3] [(false, 0), (false, 1), (false, 2), (true, 0), (false, 4), (false, 5), (false, 6)] rfl rfl (by decide) hP hD hk_ hF_3 hp_ hd_) (fun r_3 u_3 H locs h_3 hP hD hS => ?_)
    have hP : va_P G.1 vwCl ([oC h ad sn hsh, oX (ad 1) 1 [.ref (ad 11), .int (nI L), .int stp, .int why], aI G (ad 11) 64 st, oX (ad 9) 11 [.int mc, .ref ea, .int (nI k)], aO G ea 10 ef, oX q 1 [.ref qa, .int (nI qL), .int qs, .int qw], aI G qa 64 qf] ++ tl) _ := hP
    have hD : va_D A ([oC h ad sn hsh, oX (ad 1) 1 [.ref (ad 11), .int (nI L), .int stp, .int why], aI G (ad 11) 64 st, oX (ad 9) 11 [.int mc, .ref ea, .int (nI k)], aO G ea 10 ef, oX q 1 [.ref qa, .int (nI qL), .int qs, .int qw], aI G qa 64 qf] ++ tl) := hD
    have h_3 : r_3 = (nI k) := h_3
    rw [h_3]
    refine lv_iconst (v := nI 1) hx hb dX1_undo_33 (by decide) ?_
    refine N_isub hx hb dX1_undo_34 (by omega) ?_
    have hF_4 := fr_free (wc := [oX (ad 9) 11 [.int mc, .ref ea, .int (nI k)], aO G ea 10 ef]) [3, 4] rfl hA hS hD
    refine fin_rF (ws' := (fun (_ : Unit) => ([oC h ad sn hsh, oX (ad 1) 1 [.ref (ad 11), .int (nI L), .int stp, .int why], aI G (ad 11) 64 st, oX (ad 9) 11 [.int (mc + nI 1), .ref ea, .int (nI (k - 1))], aO G ea 10 (va_up ef (k - 1) none), oX q 1 [.ref qa, .int (nI qL), .int qs, .int qw], aI G qa 64 qf] ++ tl))) hS hF_4 (run_V (As := [.int (nI (k - 1))]) (rest := [.ref (ad 1)]) (n9 := 1) hx hb hml hown hts hE hAb hl.1 hS hP hD [3, 4] rfl (by decide) (t_J9_remove_l l G b0 _ (ad 9) ea k mc ef q (by omega) (by omega) (by exact he)) (lw_V q544 q545 q546 q124 q547) 3 rfl rfl ⟨rfl, by decide, by decide, by decide +kernel⟩ ⟨Nat.le_of_ble_eq_true rfl, Nat.le_of_ble_eq_true rfl⟩ ⟨by first | exact Nat.le_of_ble_eq_true rfl | (simp only [rm_X1_undo_w, rm_J9_remove_l, rm_J9_isEmpty, rm_X1_needState_t, rm_J9_size]; omega), by first | exact Nat.le_of_ble_eq_true rfl | (simp only [rm_X1_undo_w, rm_J9_remove_l, rm_J9_isEmpty, rm_X1_needState_t, rm_J9_size]; omega)⟩ dX1_undo_35 (Nat.le_of_ble_eq_true rfl) rfl rfl) (fun _ H1_ hk_ hp_ hd_ => fr_selT (ws := [oC h ad sn hsh, oX (ad 1) 1 [.ref (ad 11), .int (nI L), .int stp, .int why], aI G (ad 11) 64 st, oX (ad 9) 11 [.int mc, .ref ea, .int (nI k)], aO G ea 10 ef, oX q 1 [.ref qa, .int (nI qL), .int qs, .int qw], aI G qa 64 qf]) (wc := [oX (ad 9) 11 [.int mc, .ref ea, .int (nI k)], aO G ea 10 ef]) (ws' := [oC h ad sn hsh, oX (ad 1) 1 [.ref (ad 11), .int (nI L), .int stp, .int why], aI G (ad 11) 64 st, oX (ad 9) 11 [.int (mc + nI 1), .ref ea, .int (nI (k - 1))], aO G ea 10 (va_up ef (k - 1) none), oX q 1 [.ref qa, .int (nI qL), .int qs, .int qw], aI G qa 64 qf]) (tl := tl) [3, 4] [(false, 0), (false, 1), (false, 2), (true, 0), (true, 1), (false, 5), (false, 6)] rfl rfl (by decide) hP hD hk_ hF_4 hp_ hd_) (fun u_4 H locs h_4 hP hD hS => ?_)
    have hP : va_P G.1 vwCl ([oC h ad sn hsh, oX (ad 1) 1 [.ref (ad 11), .int (nI L), .int stp, .int why], aI G (ad 11) 64 st, oX (ad 9) 11 [.int (mc + nI 1), .ref ea, .int (nI (k - 1))], aO G ea 10 (va_up ef (k - 1) none), oX q 1 [.ref qa, .int (nI qL), .int qs, .int qw], aI G qa 64 qf] ++ tl) _ := hP
    have hD : va_D A ([oC h ad sn hsh, oX (ad 1) 1 [.ref (ad 11), .int (nI L), .int stp, .int why], aI G (ad 11) 64 st, oX (ad 9) 11 [.int (mc + nI 1), .ref ea, .int (nI (k - 1))], aO G ea 10 (va_up ef (k - 1) none), oX q 1 [.ref qa, .int (nI qL), .int qs, .int qw], aI G qa 64 qf] ++ tl) := hD
    refine W.eq (g2 := F0 m 38 ls [.ref q, .ref (ad 1)]) rfl ?_
    refine va_castS (nm := "CrumbPictures$Sheet") hx hb hown (hts _ q152) (hE.1.1 1 _ rfl).2 (va_recv hE.1 hP (ci := 1) (q0 := 5) rfl rfl) dX1_undo_38 ?_
    have hF_5 := fr_free (wc := [oX (ad 1) 1 [.ref (ad 11), .int (nI L), .int stp, .int why], aI G (ad 11) 64 st, oX q 1 [.ref qa, .int (nI qL), .int qs, .int qw], aI G qa 64 qf]) [1, 2, 5, 6] rfl hA hS hD
    refine fin_rF (ws' := (fun (_ : Unit) => ([oC h ad sn hsh, oX (ad 1) 1 [.ref (ad 11), .int (nI qL), .int qs, .int qw], aI G (ad 11) 64 qf, oX (ad 9) 11 [.int (mc + nI 1), .ref ea, .int (nI (k - 1))], aO G ea 10 (va_up ef (k - 1) none), oX q 1 [.ref qa, .int (nI qL), .int qs, .int qw], aI G qa 64 qf] ++ tl))) hS hF_5 (run_V (As := [.ref q]) (rest := []) (n9 := 1) hx hb hml hown hts hE hAb hl.1 hS hP hD [1, 2, 5, 6] rfl (by decide) (t_X2_become l G b0 _ (ad 1) (ad 11) st (nI L) stp why q qa qf (nI qL) qs qw ) (lw_V q561 q562 q563 q107 q564) 1 rfl rfl ⟨rfl, by decide, by decide, by decide +kernel⟩ ⟨Nat.le_of_ble_eq_true rfl, Nat.le_of_ble_eq_true rfl⟩ ⟨by first | exact Nat.le_of_ble_eq_true rfl | (simp only [rm_X1_undo_w, rm_X2_become, rm_J9_isEmpty, rm_X1_needState_t, rm_J9_size, rm_J9_remove_l]; omega), by first | exact Nat.le_of_ble_eq_true rfl | (simp only [rm_X1_undo_w, rm_X2_become, rm_J9_isEmpty, rm_X1_needState_t, rm_J9_size, rm_J9_remove_l]; omega)⟩ dX1_undo_41 (Nat.le_of_ble_eq_true rfl) rfl rfl) (fun _ H1_ hk_ hp_ hd_ => fr_selT (ws := [oC h ad sn hsh, oX (ad 1) 1 [.ref (ad 11), .int (nI L), .int stp, .int why], aI G (ad 11) 64 st, oX (ad 9) 11 [.int (mc + nI 1), .ref ea, .int (nI (k - 1))], aO G ea 10 (va_up ef (k - 1) none), oX q 1 [.ref qa, .int (nI qL), .int qs, .int qw], aI G qa 64 qf]) (wc := [oX (ad 1) 1 [.ref (ad 11), .int (nI L), .int stp, .int why], aI G (ad 11) 64 st, oX q 1 [.ref qa, .int (nI qL), .int qs, .int qw], aI G qa 64 qf]) (ws' := [oC h ad sn hsh, oX (ad 1) 1 [.ref (ad 11), .int (nI qL), .int qs, .int qw], aI G (ad 11) 64 qf, oX (ad 9) 11 [.int (mc + nI 1), .ref ea, .int (nI (k - 1))], aO G ea 10 (va_up ef (k - 1) none), oX q 1 [.ref qa, .int (nI qL), .int qs, .int qw], aI G qa 64 qf]) (tl := tl) [1, 2, 5, 6] [(false, 0), (true, 0), (true, 1), (false, 3), (false, 4), (true, 2), (true, 3)] rfl rfl (by decide) hP hD hk_ hF_5 hp_ hd_) (fun u_5 H locs h_5 hP hD hS => ?_)
    have hP : va_P G.1 vwCl ([oC h ad sn hsh, oX (ad 1) 1 [.ref (ad 11), .int (nI qL), .int qs, .int qw], aI G (ad 11) 64 qf, oX (ad 9) 11 [.int (mc + nI 1), .ref ea, .int (nI (k - 1))], aO G ea 10 (va_up ef (k - 1) none), oX q 1 [.ref qa, .int (nI qL), .int qs, .int qw], aI G qa 64 qf] ++ tl) _ := hP
    have hD : va_D A ([oC h ad sn hsh, oX (ad 1) 1 [.ref (ad 11), .int (nI qL), .int qs, .int qw], aI G (ad 11) 64 qf, oX (ad 9) 11 [.int (mc + nI 1), .ref ea, .int (nI (k - 1))], aO G ea 10 (va_up ef (k - 1) none), oX q 1 [.ref qa, .int (nI qL), .int qs, .int qw], aI G qa 64 qf] ++ tl) := hD
    refine W.eq (g2 := F0 m 44 ls [.ref (ad 1)]) rfl ?_
    refine lv_pop hx hb dX1_undo_44 rfl ?_
    refine lv_aload_n hx hb dX1_undo_45 rfl (lv_at hl 0 rfl) ?_
    refine va_get (D := G.1) (ci := 0) (v := .ref (ad 9)) (C := RX1) (T := TX1) (N := 12) hx hb hts in_X1 hown hK hP 0 rfl rfl 8 (by decide) (hts _ q502) (fun _ h9 => h9) rfl dX1_undo_46 ?_
    have hF_6 := fr_free (wc := [oX (ad 9) 11 [.int (mc + nI 1), .ref ea, .int (nI (k - 1))]]) [3] rfl hA hS hD
    refine fin_iF (ws' := (fun (_ : Unit) => ([oC h ad sn hsh, oX (ad 1) 1 [.ref (ad 11), .int (nI qL), .int qs, .int qw], aI G (ad 11) 64 qf, oX (ad 9) 11 [.int (mc + nI 1), .ref ea, .int (nI (k - 1))], aO G ea 10 (va_up ef (k - 1) none), oX q 1 [.ref qa, .int (nI qL), .int qs, .int qw], aI G qa 64 qf] ++ tl))) hS hF_6 (run_V (As := []) (rest := []) (n9 := 0) hx hb hml hown hts hE hAb hl.1 hS hP hD [3] rfl (by decide) (t_J9_size l G b0 _ (ad 9) ea (k - 1) (mc + nI 1) ) (lw_V q540 q541 q542 q124 q543) 3 rfl rfl ⟨rfl, by decide, by decide, by decide +kernel⟩ ⟨Nat.le_of_ble_eq_true rfl, Nat.le_of_ble_eq_true rfl⟩ ⟨by first | exact Nat.le_of_ble_eq_true rfl | (simp only [rm_X1_undo_w, rm_J9_size, rm_J9_isEmpty, rm_X1_needState_t, rm_J9_remove_l, rm_X2_become]; omega), by first | exact Nat.le_of_ble_eq_true rfl | (simp only [rm_X1_undo_w, rm_J9_size, rm_J9_isEmpty, rm_X1_needState_t, rm_J9_remove_l, rm_X2_become]; omega)⟩ dX1_undo_49 (Nat.le_of_ble_eq_true rfl) rfl rfl) (fun _ H1_ hk_ hp_ hd_ => fr_selT (ws := [oC h ad sn hsh, oX (ad 1) 1 [.ref (ad 11), .int (nI qL), .int qs, .int qw], aI G (ad 11) 64 qf, oX (ad 9) 11 [.int (mc + nI 1), .ref ea, .int (nI (k - 1))], aO G ea 10 (va_up ef (k - 1) none), oX q 1 [.ref qa, .int (nI qL), .int qs, .int qw], aI G qa 64 qf]) (wc := [oX (ad 9) 11 [.int (mc + nI 1), .ref ea, .int (nI (k - 1))]]) (ws' := [oC h ad sn hsh, oX (ad 1) 1 [.ref (ad 11), .int (nI qL), .int qs, .int qw], aI G (ad 11) 64 qf, oX (ad 9) 11 [.int (mc + nI 1), .ref ea, .int (nI (k - 1))], aO G ea 10 (va_up ef (k - 1) none), oX q 1 [.ref qa, .int (nI qL), .int qs, .int qw], aI G qa 64 qf]) (tl := tl) [3] [(false, 0), (false, 1), (false, 2), (true, 0), (false, 4), (false, 5), (false, 6)] rfl rfl (by decide) hP hD hk_ hF_6 hp_ hd_) (fun r_6 u_6 H locs h_6 hP hD hS => ?_)
    have hP : va_P G.1 vwCl ([oC h ad sn hsh, oX (ad 1) 1 [.ref (ad 11), .int (nI qL), .int qs, .int qw], aI G (ad 11) 64 qf, oX (ad 9) 11 [.int (mc + nI 1), .ref ea, .int (nI (k - 1))], aO G ea 10 (va_up ef (k - 1) none), oX q 1 [.ref qa, .int (nI qL), .int qs, .int qw], aI G qa 64 qf] ++ tl) _ := hP
    have hD : va_D A ([oC h ad sn hsh, oX (ad 1) 1 [.ref (ad 11), .int (nI qL), .int qs, .int qw], aI G (ad 11) 64 qf, oX (ad 9) 11 [.int (mc + nI 1), .ref ea, .int (nI (k - 1))], aO G ea 10 (va_up ef (k - 1) none), oX q 1 [.ref qa, .int (nI qL), .int qs, .int qw], aI G qa 64 qf] ++ tl) := hD
    have h_6 : r_6 = (nI (k - 1)) := h_6
    rw [h_6]
    have hP : va_P G.1 vwCl ([oC h ad sn hsh, oX (ad 1) 1 [.ref (ad 11), .int (nI qL), .int qs, .int qw], aI G (ad 11) 64 qf, oX (ad 9) 11 [.int (mc + nI 1), .ref ea, .int (nI (k - 1))], aO G ea 10 (va_up ef (k - 1) none)] ++ tl) _ := va_P.part hP [0, 1, 2, 3, 4] rfl
    have hD : va_D A ([oC h ad sn hsh, oX (ad 1) 1 [.ref (ad 11), .int (nI qL), .int qs, .int qw], aI G (ad 11) 64 qf, oX (ad 9) 11 [.int (mc + nI 1), .ref ea, .int (nI (k - 1))], aO G ea 10 (va_up ef (k - 1) none)] ++ tl) := va_D.part hD [0, 1, 2, 3, 4] (by decide) rfl
    rw [hQQ]
    exact rt_i hx hb hr hlk  ((())) dX1_undo_52 hP hD hS (by first | exact Nat.le_of_ble_eq_true rfl | (simp only [rm_X1_undo_w, rm_J9_isEmpty, rm_X1_needState_t, rm_J9_size, rm_J9_remove_l, rm_X2_become]; omega) | omega) (by first | exact Nat.le_of_ble_eq_true rfl | (simp only [rm_X1_undo_w, rm_J9_isEmpty, rm_X1_needState_t, rm_J9_size, rm_J9_remove_l, rm_X2_become]; omega) | omega) (by rfl)
def rm_X1_keep_0 : Room := ({ frames := 2, cells := 2, slots := 80, locals := 61 } : Room)
set_option maxHeartbeats 400000 in
set_option maxRecDepth 100000 in
theorem t_X1_keep_0 (l : Launch) (G : GG) (b0 sz : Nat) (h : Nat) (ad : Nat → Nat) (hsh : Int64) (L : Nat) (stp why : Int32) (st : Nat → Int32) : CT l yX1_keep cX1_keep 1 (some FieldType.int) (rm_X1_keep_0) G b0 [.ref h] [oC h ad .null hsh, oX (ad 1) 1 [.ref (ad 11), .int (nI L), .int stp, .int why], aI G (ad 11) 64 st] sz (Ri G (fun (r_ : Int32) (u : Nat × Nat) => r_ = l_sum st 64) (fun (u : Nat × Nat) => [oC h ad (.ref u.1) hsh, oX (ad 1) 1 [.ref (ad 11), .int (nI L), .int stp, .int why], aI G (ad 11) 64 st, oX u.1 1 [.ref u.2, .int (nI L), .int stp, .int why], aI G u.2 64 st])) := by
  refine CT.go (by decide) (Nat.le_of_ble_eq_true rfl) (fun p e s m below meth c A ls AR QQ hx hb hr hlk hml hown hnm hts hE hA hAb hsz hP hD hS hl hQQ => ?_)
  have hK := hE.1
  have hown : s.vm.findClass RX1 = some m.cls := hown
  have hl : lv_has ls 1 [(0, .ref h)] := hl
  clear hsz
  refine lv_aload_n hx hb dX1_keep_0 rfl (lv_at hl 0 rfl) ?_
  refine va_get (D := G.1) (ci := 0) (v := .null) (C := RX1) (T := TX1) (N := 12) hx hb hts in_X1 hown hK hP 0 rfl rfl 9 (by decide) (hts _ q503) (fun _ h9 => h9) rfl dX1_keep_1 ?_
  refine lv_ifnonnullN hx hb dX1_keep_4 ?_
  refine lv_aload_n hx hb dX1_keep_7 rfl (lv_at hl 0 rfl) ?_
  refine va_new (ci := 1) (fs := [.null, .int (nI 0), .int (nI 0), .int (nI 0)]) (C := RX2) (T := TX2) (N := 4) hx hb hts in_X2 tyX2 tyX2_ok hown (hts _ q152) (hts _ q153) (hts _ q107) hK hP hD hS hA rfl (fun j hj => by rcases (show j = 0 ∨ j = 1 ∨ j = 2 ∨ j = 3 by omega) with rfl | rfl | rfl | rfl <;> rfl) (by first | exact Nat.le_of_ble_eq_true rfl | omega) (by first | exact Nat.le_of_ble_eq_true rfl | omega) dX1_keep_8 (fun q1 H hP hD hS => ?_)
  have hP : va_P G.1 vwCl [oC h ad .null hsh, oX (ad 1) 1 [.ref (ad 11), .int (nI L), .int stp, .int why], aI G (ad 11) 64 st, oX q1 1 [.null, .int (nI 0), .int (nI 0), .int (nI 0)]] _ := hP
  have hD : va_D A [oC h ad .null hsh, oX (ad 1) 1 [.ref (ad 11), .int (nI L), .int stp, .int why], aI G (ad 11) 64 st, oX q1 1 [.null, .int (nI 0), .int (nI 0), .int (nI 0)]] := hD
  refine lv_dup hx hb dX1_keep_11 rfl ?_
  refine fin_v (ws' := (fun (u_2 : Nat) => [oC h ad .null hsh, oX (ad 1) 1 [.ref (ad 11), .int (nI L), .int stp, .int why], aI G (ad 11) 64 st, oX q1 1 [.ref u_2, .int (nI 3), .int ((-1)), .int (nI 0)], aI G u_2 64 (fun _ => 0)])) hA hS hP hD [3] rfl [(false, 0), (false, 1), (false, 2), (true, 0), (true, 1)] (fun _ => rfl) (by decide) (run_IN (As := []) (rest := [.ref q1, .ref h]) (n9 := 0) (host := "CrumbPictures") hx hb hml hown hts hE hAb hl.1 hS hP hD [3] rfl (by decide) (t_X2_init l G b0 _ q1 ) (lw_meth q156) q154 q107 q155 rfl ⟨by decide, by decide, by decide +kernel⟩ ⟨Nat.le_of_ble_eq_true rfl, Nat.le_of_ble_eq_true rfl⟩ ⟨by first | exact Nat.le_of_ble_eq_true rfl | (simp only [rm_X1_keep_0, rm_X2_init]; omega), by first | exact Nat.le_of_ble_eq_true rfl | (simp only [rm_X1_keep_0, rm_X2_init]; omega)⟩ dX1_keep_12 (Nat.le_of_ble_eq_true rfl) rfl rfl) (fun u_2 H locs h_2 hP hD hS => ?_)
  have hP : va_P G.1 vwCl [oC h ad .null hsh, oX (ad 1) 1 [.ref (ad 11), .int (nI L), .int stp, .int why], aI G (ad 11) 64 st, oX q1 1 [.ref u_2, .int (nI 3), .int ((-1)), .int (nI 0)], aI G u_2 64 (fun _ => 0)] _ := hP
  have hD : va_D A [oC h ad .null hsh, oX (ad 1) 1 [.ref (ad 11), .int (nI L), .int stp, .int why], aI G (ad 11) 64 st, oX q1 1 [.ref u_2, .int (nI 3), .int ((-1)), .int (nI 0)], aI G u_2 64 (fun _ => 0)] := hD
  refine va_put (D := G.1) (ci := 0) (v := .ref q1) (ty := (.object "CrumbPictures$Sheet")) (C := RX1) (T := TX1) (N := 12) hx hb hts in_X1 tyX1 tyX1_ok nmX1 hown hK hP hD hS 0 rfl rfl 9 (by decide) (hts _ q503) (fun _ h9 => h9) rfl (by decide +kernel) rfl rfl (Nat.le_of_ble_eq_true rfl) dX1_keep_15 (fun H locs hP hD hS => ?_)
  have hP : va_P G.1 vwCl [oC h ad (.ref q1) hsh, oX (ad 1) 1 [.ref (ad 11), .int (nI L), .int stp, .int why], aI G (ad 11) 64 st, oX q1 1 [.ref u_2, .int (nI 3), .int ((-1)), .int (nI 0)], aI G u_2 64 (fun _ => 0)] _ := hP
  have hD : va_D A [oC h ad (.ref q1) hsh, oX (ad 1) 1 [.ref (ad 11), .int (nI L), .int stp, .int why], aI G (ad 11) 64 st, oX q1 1 [.ref u_2, .int (nI 3), .int ((-1)), .int (nI 0)], aI G u_2 64 (fun _ => 0)] := hD
  refine lv_aload_n hx hb dX1_keep_18 rfl (lv_at hl 0 rfl) ?_
  refine va_get (D := G.1) (ci := 0) (v := .ref q1) (C := RX1) (T := TX1) (N := 12) hx hb hts in_X1 hown hK hP 0 rfl rfl 9 (by decide) (hts _ q503) (fun _ h9 => h9) rfl dX1_keep_19 ?_
  refine lv_aload_n hx hb dX1_keep_22 rfl (lv_at hl 0 rfl) ?_
  refine va_get (D := G.1) (ci := 0) (v := .ref (ad 1)) (C := RX1) (T := TX1) (N := 12) hx hb hts in_X1 hown hK hP 0 rfl rfl 0 (by decide) (hts _ q494) (fun _ h9 => h9) rfl dX1_keep_23 ?_
  refine fin_r (ws' := (fun (_ : Unit) => [oC h ad (.ref q1) hsh, oX (ad 1) 1 [.ref (ad 11), .int (nI L), .int stp, .int why], aI G (ad 11) 64 st, oX q1 1 [.ref u_2, .int (nI L), .int stp, .int why], aI G u_2 64 st])) hA hS hP hD [3, 4, 1, 2] rfl [(false, 0), (true, 2), (true, 3), (true, 0), (true, 1)] (fun _ => rfl) (by decide) (run_V (As := [.ref (ad 1)]) (rest := []) (n9 := 1) hx hb hml hown hts hE hAb hl.1 hS hP hD [3, 4, 1, 2] rfl (by decide) (t_X2_become l G b0 _ q1 u_2 (fun _ => 0) (nI 3) ((-1)) (nI 0) (ad 1) (ad 11) st (nI L) stp why ) (lw_V q561 q562 q563 q107 q564) 3 rfl rfl ⟨rfl, by decide, by decide, by decide +kernel⟩ ⟨Nat.le_of_ble_eq_true rfl, Nat.le_of_ble_eq_true rfl⟩ ⟨by first | exact Nat.le_of_ble_eq_true rfl | (simp only [rm_X1_keep_0, rm_X2_become, rm_X2_init]; omega), by first | exact Nat.le_of_ble_eq_true rfl | (simp only [rm_X1_keep_0, rm_X2_become, rm_X2_init]; omega)⟩ dX1_keep_26 (Nat.le_of_ble_eq_true rfl) rfl rfl) (fun u_3 H locs h_3 hP hD hS => ?_)
  have hP : va_P G.1 vwCl [oC h ad (.ref q1) hsh, oX (ad 1) 1 [.ref (ad 11), .int (nI L), .int stp, .int why], aI G (ad 11) 64 st, oX q1 1 [.ref u_2, .int (nI L), .int stp, .int why], aI G u_2 64 st] _ := hP
  have hD : va_D A [oC h ad (.ref q1) hsh, oX (ad 1) 1 [.ref (ad 11), .int (nI L), .int stp, .int why], aI G (ad 11) 64 st, oX q1 1 [.ref u_2, .int (nI L), .int stp, .int why], aI G u_2 64 st] := hD
  refine W.eq (g2 := F0 m 29 ls [.ref q1]) rfl ?_
  refine fin_i (ws' := (fun (_ : Unit) => [oC h ad (.ref q1) hsh, oX (ad 1) 1 [.ref (ad 11), .int (nI L), .int stp, .int why], aI G (ad 11) 64 st, oX q1 1 [.ref u_2, .int (nI L), .int stp, .int why], aI G u_2 64 st])) hA hS hP hD [3, 4] rfl [(false, 0), (false, 1), (false, 2), (true, 0), (true, 1)] (fun _ => rfl) (by decide) (run_V (As := []) (rest := []) (n9 := 0) hx hb hml hown hts hE hAb hl.1 hS hP hD [3, 4] rfl (by decide) (t_X2_sum l G b0 _ q1 u_2 st (nI L) stp why ) (lw_V q1042 q657 q658 q107 q659) 3 rfl rfl ⟨rfl, by decide, by decide, by decide +kernel⟩ ⟨Nat.le_of_ble_eq_true rfl, Nat.le_of_ble_eq_true rfl⟩ ⟨by first | exact Nat.le_of_ble_eq_true rfl | (simp only [rm_X1_keep_0, rm_X2_sum, rm_X2_init, rm_X2_become]; omega), by first | exact Nat.le_of_ble_eq_true rfl | (simp only [rm_X1_keep_0, rm_X2_sum, rm_X2_init, rm_X2_become]; omega)⟩ dX1_keep_29 (Nat.le_of_ble_eq_true rfl) rfl rfl) (fun r_4 u_4 H locs h_4 hP hD hS => ?_)
  have hP : va_P G.1 vwCl [oC h ad (.ref q1) hsh, oX (ad 1) 1 [.ref (ad 11), .int (nI L), .int stp, .int why], aI G (ad 11) 64 st, oX q1 1 [.ref u_2, .int (nI L), .int stp, .int why], aI G u_2 64 st] _ := hP
  have hD : va_D A [oC h ad (.ref q1) hsh, oX (ad 1) 1 [.ref (ad 11), .int (nI L), .int stp, .int why], aI G (ad 11) 64 st, oX q1 1 [.ref u_2, .int (nI L), .int stp, .int why], aI G u_2 64 st] := hD
  have h_4 : r_4 = (l_sum st 64) := h_4
  rw [h_4]
  rw [hQQ]
  exact rt_i hx hb hr hlk  (((q1, u_2))) dX1_keep_32 hP hD hS (by first | exact Nat.le_of_ble_eq_true rfl | (simp only [rm_X1_keep_0, rm_X2_init, rm_X2_become, rm_X2_sum]; omega) | omega) (by first | exact Nat.le_of_ble_eq_true rfl | (simp only [rm_X1_keep_0, rm_X2_init, rm_X2_become, rm_X2_sum]; omega) | omega) (by rfl)
def rm_X1_keep_1 : Room := ({ frames := 2, cells := 0, slots := 0, locals := 61 } : Room)
set_option maxHeartbeats 400000 in
set_option maxRecDepth 100000 in
theorem t_X1_keep_1 (l : Launch) (G : GG) (b0 sz : Nat) (h : Nat) (ad : Nat → Nat) (hsh : Int64) (L : Nat) (stp why : Int32) (st : Nat → Int32) (q qa qL : Nat) (qs qw : Int32) (qf : Nat → Int32) : CT l yX1_keep cX1_keep 1 (some FieldType.int) (rm_X1_keep_1) G b0 [.ref h] [oC h ad (.ref q) hsh, oX (ad 1) 1 [.ref (ad 11), .int (nI L), .int stp, .int why], aI G (ad 11) 64 st, oX q 1 [.ref qa, .int (nI qL), .int qs, .int qw], aI G qa 64 qf] sz (Ri G (fun (r_ : Int32) (_ : Unit) => r_ = l_sum st 64) (fun (_ : Unit) => [oC h ad (.ref q) hsh, oX (ad 1) 1 [.ref (ad 11), .int (nI L), .int stp, .int why], aI G (ad 11) 64 st, oX q 1 [.ref qa, .int (nI L), .int stp, .int why], aI G qa 64 st])) := by
  refine CT.go (by decide) (Nat.le_of_ble_eq_true rfl) (fun p e s m below meth c A ls AR QQ hx hb hr hlk hml hown hnm hts hE hA hAb hsz hP hD hS hl hQQ => ?_)
  have hK := hE.1
  have hown : s.vm.findClass RX1 = some m.cls := hown
  have hl : lv_has ls 1 [(0, .ref h)] := hl
  clear hsz
  refine lv_aload_n hx hb dX1_keep_0 rfl (lv_at hl 0 rfl) ?_
  refine va_get (D := G.1) (ci := 0) (v := .ref q) (C := RX1) (T := TX1) (N := 12) hx hb hts in_X1 hown hK hP 0 rfl rfl 9 (by decide) (hts _ q503) (fun _ h9 => h9) rfl dX1_keep_1 ?_
  refine lv_ifnonnull (tgt := 18) hx hb dX1_keep_4 (by decide) ?_
  refine lv_aload_n hx hb dX1_keep_18 rfl (lv_at hl 0 rfl) ?_
  refine va_get (D := G.1) (ci := 0) (v := .ref q) (C := RX1) (T := TX1) (N := 12) hx hb hts in_X1 hown hK hP 0 rfl rfl 9 (by decide) (hts _ q503) (fun _ h9 => h9) rfl dX1_keep_19 ?_
  refine lv_aload_n hx hb dX1_keep_22 rfl (lv_at hl 0 rfl) ?_
  refine va_get (D := G.1) (ci := 0) (v := .ref (ad 1)) (C := RX1) (T := TX1) (N := 12) hx hb hts in_X1 hown hK hP 0 rfl rfl 0 (by decide) (hts _ q494) (fun _ h9 => h9) rfl dX1_keep_23 ?_
  refine fin_r (ws' := (fun (_ : Unit) => [oC h ad (.ref q) hsh, oX (ad 1) 1 [.ref (ad 11), .int (nI L), .int stp, .int why], aI G (ad 11) 64 st, oX q 1 [.ref qa, .int (nI L), .int stp, .int why], aI G qa 64 st])) hA hS hP hD [3, 4, 1, 2] rfl [(false, 0), (true, 2), (true, 3), (true, 0), (true, 1)] (fun _ => rfl) (by decide) (run_V (As := [.ref (ad 1)]) (rest := []) (n9 := 1) hx hb hml hown hts hE hAb hl.1 hS hP hD [3, 4, 1, 2] rfl (by decide) (t_X2_become l G b0 _ q qa qf (nI qL) qs qw (ad 1) (ad 11) st (nI L) stp why ) (lw_V q561 q562 q563 q107 q564) 3 rfl rfl ⟨rfl, by decide, by decide, by decide +kernel⟩ ⟨Nat.le_of_ble_eq_true rfl, Nat.le_of_ble_eq_true rfl⟩ ⟨by first | exact Nat.le_of_ble_eq_true rfl | (simp only [rm_X1_keep_1, rm_X2_become]; omega), by first | exact Nat.le_of_ble_eq_true rfl | (simp only [rm_X1_keep_1, rm_X2_become]; omega)⟩ dX1_keep_26 (Nat.le_of_ble_eq_true rfl) rfl rfl) (fun u_1 H locs h_1 hP hD hS => ?_)
  have hP : va_P G.1 vwCl [oC h ad (.ref q) hsh, oX (ad 1) 1 [.ref (ad 11), .int (nI L), .int stp, .int why], aI G (ad 11) 64 st, oX q 1 [.ref qa, .int (nI L), .int stp, .int why], aI G qa 64 st] _ := hP
  have hD : va_D A [oC h ad (.ref q) hsh, oX (ad 1) 1 [.ref (ad 11), .int (nI L), .int stp, .int why], aI G (ad 11) 64 st, oX q 1 [.ref qa, .int (nI L), .int stp, .int why], aI G qa 64 st] := hD
  refine W.eq (g2 := F0 m 29 ls [.ref q]) rfl ?_
  refine fin_i (ws' := (fun (_ : Unit) => [oC h ad (.ref q) hsh, oX (ad 1) 1 [.ref (ad 11), .int (nI L), .int stp, .int why], aI G (ad 11) 64 st, oX q 1 [.ref qa, .int (nI L), .int stp, .int why], aI G qa 64 st])) hA hS hP hD [3, 4] rfl [(false, 0), (false, 1), (false, 2), (true, 0), (true, 1)] (fun _ => rfl) (by decide) (run_V (As := []) (rest := []) (n9 := 0) hx hb hml hown hts hE hAb hl.1 hS hP hD [3, 4] rfl (by decide) (t_X2_sum l G b0 _ q qa st (nI L) stp why ) (lw_V q1042 q657 q658 q107 q659) 3 rfl rfl ⟨rfl, by decide, by decide, by decide +kernel⟩ ⟨Nat.le_of_ble_eq_true rfl, Nat.le_of_ble_eq_true rfl⟩ ⟨by first | exact Nat.le_of_ble_eq_true rfl | (simp only [rm_X1_keep_1, rm_X2_sum, rm_X2_become]; omega), by first | exact Nat.le_of_ble_eq_true rfl | (simp only [rm_X1_keep_1, rm_X2_sum, rm_X2_become]; omega)⟩ dX1_keep_29 (Nat.le_of_ble_eq_true rfl) rfl rfl) (fun r_2 u_2 H locs h_2 hP hD hS => ?_)
  have hP : va_P G.1 vwCl [oC h ad (.ref q) hsh, oX (ad 1) 1 [.ref (ad 11), .int (nI L), .int stp, .int why], aI G (ad 11) 64 st, oX q 1 [.ref qa, .int (nI L), .int stp, .int why], aI G qa 64 st] _ := hP
  have hD : va_D A [oC h ad (.ref q) hsh, oX (ad 1) 1 [.ref (ad 11), .int (nI L), .int stp, .int why], aI G (ad 11) 64 st, oX q 1 [.ref qa, .int (nI L), .int stp, .int why], aI G qa 64 st] := hD
  have h_2 : r_2 = (l_sum st 64) := h_2
  rw [h_2]
  rw [hQQ]
  exact rt_i hx hb hr hlk  ((())) dX1_keep_32 hP hD hS (by first | exact Nat.le_of_ble_eq_true rfl | (simp only [rm_X1_keep_1, rm_X2_become, rm_X2_sum]; omega) | omega) (by first | exact Nat.le_of_ble_eq_true rfl | (simp only [rm_X1_keep_1, rm_X2_become, rm_X2_sum]; omega) | omega) (by rfl)
def rm_X1_restore_t : Room := ({ frames := 12, cells := 4, slots := 80, locals := 420 } : Room)
set_option maxHeartbeats 400000 in
set_option maxRecDepth 100000 in
theorem t_X1_restore_t (l : Launch) (G : GG) (b0 sz : Nat) (h : Nat) (ad : Nat → Nat) (hsh : Int64) (L : Nat) (stp why : Int32) (st : Nat → Int32) (q qa qL : Nat) (qs qw : Int32) (qf : Nat → Int32) (xs : List svR) (T : va_W) (hSV : SV G (ad 9) xs T) : CT l yX1_restore cX1_restore 1 (some FieldType.int) (rm_X1_restore_t) G b0 [.ref h] ([oC h ad (.ref q) hsh, oX (ad 1) 1 [.ref (ad 11), .int (nI L), .int stp, .int why], aI G (ad 11) 64 st, oX q 1 [.ref qa, .int (nI qL), .int qs, .int qw], aI G qa 64 qf] ++ T) sz (Ri G (fun (r_ : Int32) (u : va_W) => r_ = l_sum qf 64 ∧ ∃ o a : Nat, SV G (ad 9) (svP xs (o, a, st, L, stp, why)) u) (fun (u : va_W) => ([oC h ad (.ref q) hsh, oX (ad 1) 1 [.ref (ad 11), .int (nI qL), .int qs, .int qw], aI G (ad 11) 64 qf, oX q 1 [.ref qa, .int (nI qL), .int qs, .int qw], aI G qa 64 qf] ++ u))) := by
  refine CT.go (by decide) (Nat.le_of_ble_eq_true rfl) (fun p e s m below meth c A ls AR QQ hx hb hr hlk hml hown hnm hts hE hA hAb hsz hP hD hS hl hQQ => ?_)
  have hK := hE.1
  have hown : s.vm.findClass RX1 = some m.cls := hown
  have hl : lv_has ls 1 [(0, .ref h)] := hl
  clear hsz
  refine lv_aload_n hx hb dX1_restore_0 rfl (lv_at hl 0 rfl) ?_
  refine va_get (D := G.1) (ci := 0) (v := .ref q) (C := RX1) (T := TX1) (N := 12) hx hb hts in_X1 hown hK hP 0 rfl rfl 9 (by decide) (hts _ q503) (fun _ h9 => h9) rfl dX1_restore_1 ?_
  refine lv_ifnull hx hb dX1_restore_4 ?_
  refine lv_iconst (v := nI 1) hx hb dX1_restore_7 (by decide) ?_
  refine lv_goto (tgt := 12) hx hb dX1_restore_8 (by decide) ?_
  refine W.eq (g2 := F0 m 12 ls [.int (bI true)]) rfl ?_
  have hF_1 := fr_free (wc := []) [] rfl hA hS hD
  refine fin_vF (ws' := (fun (_ : Unit) => ([oC h ad (.ref q) hsh, oX (ad 1) 1 [.ref (ad 11), .int (nI L), .int stp, .int why], aI G (ad 11) 64 st, oX q 1 [.ref qa, .int (nI qL), .int qs, .int qw], aI G qa 64 qf] ++ T))) hS hF_1 (run_S (As := [.int (bI true)]) (rest := []) (n9 := 1) hx hb hml hown hts hE hAb hl.1 hS hP hD [] rfl (by decide) (t_X1_needState_t l G b0 _  ) (lw_S q1392 q1393 q106 q1394) ⟨by decide, by decide, by decide +kernel⟩ ⟨Nat.le_of_ble_eq_true rfl, Nat.le_of_ble_eq_true rfl⟩ ⟨by first | exact Nat.le_of_ble_eq_true rfl | (simp only [rm_X1_restore_t, rm_X1_needState_t]; omega), by first | exact Nat.le_of_ble_eq_true rfl | (simp only [rm_X1_restore_t, rm_X1_needState_t]; omega)⟩ dX1_restore_12 (Nat.le_of_ble_eq_true rfl) rfl rfl) (fun _ H1_ hk_ hp_ hd_ => fr_selT (ws := [oC h ad (.ref q) hsh, oX (ad 1) 1 [.ref (ad 11), .int (nI L), .int stp, .int why], aI G (ad 11) 64 st, oX q 1 [.ref qa, .int (nI qL), .int qs, .int qw], aI G qa 64 qf]) (wc := []) (ws' := [oC h ad (.ref q) hsh, oX (ad 1) 1 [.ref (ad 11), .int (nI L), .int stp, .int why], aI G (ad 11) 64 st, oX q 1 [.ref qa, .int (nI qL), .int qs, .int qw], aI G qa 64 qf]) (tl := T) [] [(false, 0), (false, 1), (false, 2), (false, 3), (false, 4)] rfl rfl (by decide) hP hD hk_ hF_1 hp_ hd_) (fun u_1 H locs h_1 hP hD hS => ?_)
  have hP : va_P G.1 vwCl ([oC h ad (.ref q) hsh, oX (ad 1) 1 [.ref (ad 11), .int (nI L), .int stp, .int why], aI G (ad 11) 64 st, oX q 1 [.ref qa, .int (nI qL), .int qs, .int qw], aI G qa 64 qf] ++ T) _ := hP
  have hD : va_D A ([oC h ad (.ref q) hsh, oX (ad 1) 1 [.ref (ad 11), .int (nI L), .int stp, .int why], aI G (ad 11) 64 st, oX q 1 [.ref qa, .int (nI qL), .int qs, .int qw], aI G qa 64 qf] ++ T) := hD
  refine lv_aload_n hx hb dX1_restore_15 rfl (lv_at hl 0 rfl) ?_
  have hF_2 := fr_free (wc := [oC h ad (.ref q) hsh, oX (ad 1) 1 [.ref (ad 11), .int (nI L), .int stp, .int why], aI G (ad 11) 64 st] ++ T) (isT [0, 1, 2] 5 T) (isT_C (ws := [oC h ad (.ref q) hsh, oX (ad 1) 1 [.ref (ad 11), .int (nI L), .int stp, .int why], aI G (ad 11) 64 st, oX q 1 [.ref qa, .int (nI qL), .int qs, .int qw], aI G qa 64 qf]) (wc := [oC h ad (.ref q) hsh, oX (ad 1) 1 [.ref (ad 11), .int (nI L), .int stp, .int why], aI G (ad 11) 64 st]) rfl) hA hS hD
  refine fin_vF (ws' := (fun (u_2 : va_W) => ([oC h ad (.ref q) hsh, oX (ad 1) 1 [.ref (ad 11), .int (nI L), .int stp, .int why], aI G (ad 11) 64 st, oX q 1 [.ref qa, .int (nI qL), .int qs, .int qw], aI G qa 64 qf] ++ u_2))) hS hF_2 (run_V (As := []) (rest := []) (n9 := 0) hx hb hml hown hts hE hAb hl.1 hS hP hD (isT [0, 1, 2] 5 T) (isT_C (ws := [oC h ad (.ref q) hsh, oX (ad 1) 1 [.ref (ad 11), .int (nI L), .int stp, .int why], aI G (ad 11) 64 st, oX q 1 [.ref qa, .int (nI qL), .int qs, .int qw], aI G qa 64 qf]) (wc := [oC h ad (.ref q) hsh, oX (ad 1) 1 [.ref (ad 11), .int (nI L), .int stp, .int why], aI G (ad 11) 64 st]) rfl) (isT_n (by decide)) (t_X1_save l G b0 _ h ad (.ref q) hsh L stp why st xs T (by exact hSV)) (lw_V q536 q538 qs4 q106 q539) 0 rfl rfl ⟨rfl, by decide, by decide, by decide +kernel⟩ ⟨Nat.le_of_ble_eq_true rfl, Nat.le_of_ble_eq_true rfl⟩ ⟨by first | exact Nat.le_of_ble_eq_true rfl | (simp only [rm_X1_restore_t, rm_X1_save, rm_X1_needState_t]; omega), by first | exact Nat.le_of_ble_eq_true rfl | (simp only [rm_X1_restore_t, rm_X1_save, rm_X1_needState_t]; omega)⟩ dX1_restore_16 (Nat.le_of_ble_eq_true rfl) rfl rfl) (fun u_2 H1_ hk_ hp_ hd_ => fr_selP (w1 := [oC h ad (.ref q) hsh, oX (ad 1) 1 [.ref (ad 11), .int (nI L), .int stp, .int why], aI G (ad 11) 64 st]) (ws := [oC h ad (.ref q) hsh, oX (ad 1) 1 [.ref (ad 11), .int (nI L), .int stp, .int why], aI G (ad 11) 64 st, oX q 1 [.ref qa, .int (nI qL), .int qs, .int qw], aI G qa 64 qf]) (wc := [oC h ad (.ref q) hsh, oX (ad 1) 1 [.ref (ad 11), .int (nI L), .int stp, .int why], aI G (ad 11) 64 st]) (ws' := [oC h ad (.ref q) hsh, oX (ad 1) 1 [.ref (ad 11), .int (nI L), .int stp, .int why], aI G (ad 11) 64 st, oX q 1 [.ref qa, .int (nI qL), .int qs, .int qw], aI G qa 64 qf]) (tl := T) [0, 1, 2] [(true, 0), (true, 1), (true, 2), (false, 3), (false, 4)] 3 rfl rfl rfl (by decide) hP hD hk_ hF_2 hp_ hd_) (fun u_2 H locs h_2 hP hD hS => ?_)
  have hP : va_P G.1 vwCl ([oC h ad (.ref q) hsh, oX (ad 1) 1 [.ref (ad 11), .int (nI L), .int stp, .int why], aI G (ad 11) 64 st, oX q 1 [.ref qa, .int (nI qL), .int qs, .int qw], aI G qa 64 qf] ++ u_2) _ := hP
  have hD : va_D A ([oC h ad (.ref q) hsh, oX (ad 1) 1 [.ref (ad 11), .int (nI L), .int stp, .int why], aI G (ad 11) 64 st, oX q 1 [.ref qa, .int (nI qL), .int qs, .int qw], aI G qa 64 qf] ++ u_2) := hD
  have f_2 : ∃ o a : Nat, SV G (ad 9) (svP xs (o, a, st, L, stp, why)) u_2 := h_2
  have hsv := f_2
  refine lv_aload_n hx hb dX1_restore_19 rfl (lv_at hl 0 rfl) ?_
  refine va_get (D := G.1) (ci := 0) (v := .ref (ad 1)) (C := RX1) (T := TX1) (N := 12) hx hb hts in_X1 hown hK hP 0 rfl rfl 0 (by decide) (hts _ q494) (fun _ h9 => h9) rfl dX1_restore_20 ?_
  refine lv_aload_n hx hb dX1_restore_23 rfl (lv_at hl 0 rfl) ?_
  refine va_get (D := G.1) (ci := 0) (v := .ref q) (C := RX1) (T := TX1) (N := 12) hx hb hts in_X1 hown hK hP 0 rfl rfl 9 (by decide) (hts _ q503) (fun _ h9 => h9) rfl dX1_restore_24 ?_
  have hF_3 := fr_free (wc := [oX (ad 1) 1 [.ref (ad 11), .int (nI L), .int stp, .int why], aI G (ad 11) 64 st, oX q 1 [.ref qa, .int (nI qL), .int qs, .int qw], aI G qa 64 qf]) [1, 2, 3, 4] rfl hA hS hD
  refine fin_rF (ws' := (fun (_ : Unit) => ([oC h ad (.ref q) hsh, oX (ad 1) 1 [.ref (ad 11), .int (nI qL), .int qs, .int qw], aI G (ad 11) 64 qf, oX q 1 [.ref qa, .int (nI qL), .int qs, .int qw], aI G qa 64 qf] ++ u_2))) hS hF_3 (run_V (As := [.ref q]) (rest := []) (n9 := 1) hx hb hml hown hts hE hAb hl.1 hS hP hD [1, 2, 3, 4] rfl (by decide) (t_X2_become l G b0 _ (ad 1) (ad 11) st (nI L) stp why q qa qf (nI qL) qs qw ) (lw_V q561 q562 q563 q107 q564) 1 rfl rfl ⟨rfl, by decide, by decide, by decide +kernel⟩ ⟨Nat.le_of_ble_eq_true rfl, Nat.le_of_ble_eq_true rfl⟩ ⟨by first | exact Nat.le_of_ble_eq_true rfl | (simp only [rm_X1_restore_t, rm_X2_become, rm_X1_needState_t, rm_X1_save]; omega), by first | exact Nat.le_of_ble_eq_true rfl | (simp only [rm_X1_restore_t, rm_X2_become, rm_X1_needState_t, rm_X1_save]; omega)⟩ dX1_restore_27 (Nat.le_of_ble_eq_true rfl) rfl rfl) (fun _ H1_ hk_ hp_ hd_ => fr_selT (ws := [oC h ad (.ref q) hsh, oX (ad 1) 1 [.ref (ad 11), .int (nI L), .int stp, .int why], aI G (ad 11) 64 st, oX q 1 [.ref qa, .int (nI qL), .int qs, .int qw], aI G qa 64 qf]) (wc := [oX (ad 1) 1 [.ref (ad 11), .int (nI L), .int stp, .int why], aI G (ad 11) 64 st, oX q 1 [.ref qa, .int (nI qL), .int qs, .int qw], aI G qa 64 qf]) (ws' := [oC h ad (.ref q) hsh, oX (ad 1) 1 [.ref (ad 11), .int (nI qL), .int qs, .int qw], aI G (ad 11) 64 qf, oX q 1 [.ref qa, .int (nI qL), .int qs, .int qw], aI G qa 64 qf]) (tl := u_2) [1, 2, 3, 4] [(false, 0), (true, 0), (true, 1), (true, 2), (true, 3)] rfl rfl (by decide) hP hD hk_ hF_3 hp_ hd_) (fun u_3 H locs h_3 hP hD hS => ?_)
  have hP : va_P G.1 vwCl ([oC h ad (.ref q) hsh, oX (ad 1) 1 [.ref (ad 11), .int (nI qL), .int qs, .int qw], aI G (ad 11) 64 qf, oX q 1 [.ref qa, .int (nI qL), .int qs, .int qw], aI G qa 64 qf] ++ u_2) _ := hP
  have hD : va_D A ([oC h ad (.ref q) hsh, oX (ad 1) 1 [.ref (ad 11), .int (nI qL), .int qs, .int qw], aI G (ad 11) 64 qf, oX q 1 [.ref qa, .int (nI qL), .int qs, .int qw], aI G qa 64 qf] ++ u_2) := hD
  refine W.eq (g2 := F0 m 30 ls [.ref (ad 1)]) rfl ?_
  have hF_4 := fr_free (wc := [oX (ad 1) 1 [.ref (ad 11), .int (nI qL), .int qs, .int qw], aI G (ad 11) 64 qf]) [1, 2] rfl hA hS hD
  refine fin_iF (ws' := (fun (_ : Unit) => ([oC h ad (.ref q) hsh, oX (ad 1) 1 [.ref (ad 11), .int (nI qL), .int qs, .int qw], aI G (ad 11) 64 qf, oX q 1 [.ref qa, .int (nI qL), .int qs, .int qw], aI G qa 64 qf] ++ u_2))) hS hF_4 (run_V (As := []) (rest := []) (n9 := 0) hx hb hml hown hts hE hAb hl.1 hS hP hD [1, 2] rfl (by decide) (t_X2_sum l G b0 _ (ad 1) (ad 11) qf (nI qL) qs qw ) (lw_V q1042 q657 q658 q107 q659) 1 rfl rfl ⟨rfl, by decide, by decide, by decide +kernel⟩ ⟨Nat.le_of_ble_eq_true rfl, Nat.le_of_ble_eq_true rfl⟩ ⟨by first | exact Nat.le_of_ble_eq_true rfl | (simp only [rm_X1_restore_t, rm_X2_sum, rm_X1_needState_t, rm_X1_save, rm_X2_become]; omega), by first | exact Nat.le_of_ble_eq_true rfl | (simp only [rm_X1_restore_t, rm_X2_sum, rm_X1_needState_t, rm_X1_save, rm_X2_become]; omega)⟩ dX1_restore_30 (Nat.le_of_ble_eq_true rfl) rfl rfl) (fun _ H1_ hk_ hp_ hd_ => fr_selT (ws := [oC h ad (.ref q) hsh, oX (ad 1) 1 [.ref (ad 11), .int (nI qL), .int qs, .int qw], aI G (ad 11) 64 qf, oX q 1 [.ref qa, .int (nI qL), .int qs, .int qw], aI G qa 64 qf]) (wc := [oX (ad 1) 1 [.ref (ad 11), .int (nI qL), .int qs, .int qw], aI G (ad 11) 64 qf]) (ws' := [oC h ad (.ref q) hsh, oX (ad 1) 1 [.ref (ad 11), .int (nI qL), .int qs, .int qw], aI G (ad 11) 64 qf, oX q 1 [.ref qa, .int (nI qL), .int qs, .int qw], aI G qa 64 qf]) (tl := u_2) [1, 2] [(false, 0), (true, 0), (true, 1), (false, 3), (false, 4)] rfl rfl (by decide) hP hD hk_ hF_4 hp_ hd_) (fun r_4 u_4 H locs h_4 hP hD hS => ?_)
  have hP : va_P G.1 vwCl ([oC h ad (.ref q) hsh, oX (ad 1) 1 [.ref (ad 11), .int (nI qL), .int qs, .int qw], aI G (ad 11) 64 qf, oX q 1 [.ref qa, .int (nI qL), .int qs, .int qw], aI G qa 64 qf] ++ u_2) _ := hP
  have hD : va_D A ([oC h ad (.ref q) hsh, oX (ad 1) 1 [.ref (ad 11), .int (nI qL), .int qs, .int qw], aI G (ad 11) 64 qf, oX q 1 [.ref qa, .int (nI qL), .int qs, .int qw], aI G qa 64 qf] ++ u_2) := hD
  have h_4 : r_4 = (l_sum qf 64) := h_4
  rw [h_4]
  rw [hQQ]
  exact rt_i hx hb hr hlk  u_2 dX1_restore_33 hP hD hS (by first | exact Nat.le_of_ble_eq_true rfl | (simp only [rm_X1_restore_t, rm_X1_needState_t, rm_X1_save, rm_X2_become, rm_X2_sum]; omega) | omega) (by first | exact Nat.le_of_ble_eq_true rfl | (simp only [rm_X1_restore_t, rm_X1_needState_t, rm_X1_save, rm_X2_become, rm_X2_sum]; omega) | omega) ⟨(by rfl), by exact hsv⟩
def rm_X1_firstError : Room := ({ frames := 10, cells := 2, slots := 250, locals := 341 } : Room)
set_option maxHeartbeats 400000 in
set_option maxRecDepth 100000 in
theorem t_X1_firstError (l : Launch) (G : GG) (b0 sz : Nat) (h : Nat) (ad : Nat → Nat) (sn : Value) (hsh : Int64) (len : Nat) (ml : Bool) (ch : Nat → Nat) (hle : len ≤ 60) (hch : ∀ j, j < len → ch j ≤ 126) : CT l yX1_firstError cX1_firstError 2 (some FieldType.int) (rm_X1_firstError) G b0 [.ref h] [oC h ad sn hsh, oX (ad 10) 12 [.ref (ad 28), .int (nI 0), .int (bI ml), .int (nI len)], aB G (ad 28) 60 (nF ch)] sz (Ri G (fun (r_ : Int32) (_ : Unit) => r_ = nI ((prR ch len).2.1)) (fun (_ : Unit) => [oC h ad sn hsh, oX (ad 10) 12 [.ref (ad 28), .int (nI 0), .int (bI ml), .int (nI len)], aB G (ad 28) 60 (nF ch)])) := by
  refine CT.go (by decide) (Nat.le_of_ble_eq_true rfl) (fun p e s m below meth c A ls AR QQ hx hb hr hlk hml hown hnm hts hE hA hAb hsz hP hD hS hl hQQ => ?_)
  have hK := hE.1
  have hown : s.vm.findClass RX1 = some m.cls := hown
  have hl : lv_has ls 2 [(0, .ref h)] := hl
  clear hsz
  refine va_new (ci := 9) (fs := [.null, .int (nI 0), .int (nI 0), .null]) (C := RX10) (T := TX10) (N := 4) hx hb hts in_X10 tyX10 tyX10_ok hown (hts _ q954) (hts _ q955) (hts _ q142) hK hP hD hS hA rfl (fun j hj => by rcases (show j = 0 ∨ j = 1 ∨ j = 2 ∨ j = 3 by omega) with rfl | rfl | rfl | rfl <;> rfl) (by first | exact Nat.le_of_ble_eq_true rfl | omega) (by first | exact Nat.le_of_ble_eq_true rfl | omega) dX1_firstError_0 (fun q1 H hP hD hS => ?_)
  have hP : va_P G.1 vwCl [oC h ad sn hsh, oX (ad 10) 12 [.ref (ad 28), .int (nI 0), .int (bI ml), .int (nI len)], aB G (ad 28) 60 (nF ch), oX q1 9 [.null, .int (nI 0), .int (nI 0), .null]] _ := hP
  have hD : va_D A [oC h ad sn hsh, oX (ad 10) 12 [.ref (ad 28), .int (nI 0), .int (bI ml), .int (nI len)], aB G (ad 28) 60 (nF ch), oX q1 9 [.null, .int (nI 0), .int (nI 0), .null]] := hD
  refine lv_dup hx hb dX1_firstError_3 rfl ?_
  refine lv_aload_n hx hb dX1_firstError_4 rfl (lv_at hl 0 rfl) ?_
  refine fin_v (ws' := (fun (u_2 : Nat) => [oC h ad sn hsh, oX (ad 10) 12 [.ref (ad 28), .int (nI 0), .int (bI ml), .int (nI len)], aB G (ad 28) 60 (nF ch), oX q1 9 [.ref u_2, .int (nI 0), .int (nI 0), .ref h], aI G u_2 240 (fun _ => 0)])) hA hS hP hD [3] rfl [(false, 0), (false, 1), (false, 2), (true, 0), (true, 1)] (fun _ => rfl) (by decide) (run_IN (As := [.ref h]) (rest := [.ref q1]) (n9 := 1) (host := "CrumbPictures") hx hb hml hown hts hE hAb hl.1 hS hP hD [3] rfl (by decide) (t_X10_init l G b0 _ q1 h ) (lw_meth q958) q956 q142 q957 rfl ⟨by decide, by decide, by decide +kernel⟩ ⟨Nat.le_of_ble_eq_true rfl, Nat.le_of_ble_eq_true rfl⟩ ⟨by first | exact Nat.le_of_ble_eq_true rfl | (simp only [rm_X1_firstError, rm_X10_init]; omega), by first | exact Nat.le_of_ble_eq_true rfl | (simp only [rm_X1_firstError, rm_X10_init]; omega)⟩ dX1_firstError_5 (Nat.le_of_ble_eq_true rfl) rfl rfl) (fun u_2 H locs h_2 hP hD hS => ?_)
  have hP : va_P G.1 vwCl [oC h ad sn hsh, oX (ad 10) 12 [.ref (ad 28), .int (nI 0), .int (bI ml), .int (nI len)], aB G (ad 28) 60 (nF ch), oX q1 9 [.ref u_2, .int (nI 0), .int (nI 0), .ref h], aI G u_2 240 (fun _ => 0)] _ := hP
  have hD : va_D A [oC h ad sn hsh, oX (ad 10) 12 [.ref (ad 28), .int (nI 0), .int (bI ml), .int (nI len)], aB G (ad 28) 60 (nF ch), oX q1 9 [.ref u_2, .int (nI 0), .int (nI 0), .ref h], aI G u_2 240 (fun _ => 0)] := hD
  refine lv_astore_n (lv' := [(1, .ref q1), (0, .ref h)]) hx hb dX1_firstError_8 rfl hl (by decide) rfl (fun ls hl => ?_)
  refine lv_aload_n hx hb dX1_firstError_9 rfl (lv_at hl 0 rfl) ?_
  refine fin_i (ws' := (fun (u_3 : Nat × (Nat → Int32)) => [oC h ad sn hsh, oX (ad 10) 12 [.ref (ad 28), .int (nI 0), .int (bI ml), .int (nI len)], aB G (ad 28) 60 (nF ch), oX q1 9 [.ref u_2, .int (nI u_3.1), .int (nI ((prR ch len).2.1)), .ref h], aI G u_2 240 u_3.2])) hA hS hP hD [3, 4, 0, 1, 2] rfl [(true, 2), (true, 3), (true, 4), (true, 0), (true, 1)] (fun _ => rfl) (by decide) (run_V (As := []) (rest := []) (n9 := 0) hx hb hml hown hts hE hAb hl.1 hS hP hD [3, 4, 0, 1, 2] rfl (by decide) (t_X10_areWorks l G b0 _ q1 u_2 h len ad sn hsh ml ch (fun _ => 0) (by omega) (by exact hch)) (lw_V q976 q977 q978 q142 q979) 3 rfl rfl ⟨rfl, by decide, by decide, by decide +kernel⟩ ⟨Nat.le_of_ble_eq_true rfl, Nat.le_of_ble_eq_true rfl⟩ ⟨by first | exact Nat.le_of_ble_eq_true rfl | (simp only [rm_X1_firstError, rm_X10_areWorks, rm_X10_init]; omega), by first | exact Nat.le_of_ble_eq_true rfl | (simp only [rm_X1_firstError, rm_X10_areWorks, rm_X10_init]; omega)⟩ dX1_firstError_10 (Nat.le_of_ble_eq_true rfl) rfl rfl) (fun r_3 u_3 H locs h_3 hP hD hS => ?_)
  have hP : va_P G.1 vwCl [oC h ad sn hsh, oX (ad 10) 12 [.ref (ad 28), .int (nI 0), .int (bI ml), .int (nI len)], aB G (ad 28) 60 (nF ch), oX q1 9 [.ref u_2, .int (nI u_3.1), .int (nI ((prR ch len).2.1)), .ref h], aI G u_2 240 u_3.2] _ := hP
  have hD : va_D A [oC h ad sn hsh, oX (ad 10) 12 [.ref (ad 28), .int (nI 0), .int (bI ml), .int (nI len)], aB G (ad 28) 60 (nF ch), oX q1 9 [.ref u_2, .int (nI u_3.1), .int (nI ((prR ch len).2.1)), .ref h], aI G u_2 240 u_3.2] := hD
  obtain ⟨h_3, f_3⟩ := h_3
  have h_3 : r_3 = (bI ((prR ch len).1)) := h_3
  try rw [h_3] at f_3
  have f_3 : ((prR ch len).1 = true → u_3.1 = (prR ch len).2.2 ∧ fdAll ch len (prR ch len).2.2 u_3.2) := f_3
  rw [h_3]
  refine B_if_eq (tgt := 26) hx hb dX1_firstError_13 (by decide) (fun c_13 => ?_) (fun c_13 => ?_)
  · skip
    refine lv_aload_n hx hb dX1_firstError_26 rfl (lv_at hl 0 rfl) ?_
    refine va_getN (D := G.1) (ci := 9) (v := .int (nI ((prR ch len).2.1))) (C := RX10) (T := TX10) (N := 4) hx hb hts in_X10 hown hK hP 3 rfl rfl 2 (by decide) (hE.nb q965 rfl) (fun _ h9 => h9) rfl dX1_firstError_27 ?_
    have hP : va_P G.1 vwCl [oC h ad sn hsh, oX (ad 10) 12 [.ref (ad 28), .int (nI 0), .int (bI ml), .int (nI len)], aB G (ad 28) 60 (nF ch)] _ := hP.sub [0, 1, 2] rfl
    have hD : va_D A [oC h ad sn hsh, oX (ad 10) 12 [.ref (ad 28), .int (nI 0), .int (bI ml), .int (nI len)], aB G (ad 28) 60 (nF ch)] := hD.sub [0, 1, 2] (by decide) rfl
    rw [hQQ]
    exact rt_i hx hb hr hlk  ((())) dX1_firstError_30 hP hD hS (by first | exact Nat.le_of_ble_eq_true rfl | (simp only [rm_X1_firstError, rm_X10_init, rm_X10_areWorks]; omega) | omega) (by first | exact Nat.le_of_ble_eq_true rfl | (simp only [rm_X1_firstError, rm_X10_init, rm_X10_areWorks]; omega) | omega) (by first | exact congrArg nI (pr_len c_13).symm | rfl)
  · skip
    refine lv_aload_n hx hb dX1_firstError_16 rfl (lv_at hl 1 rfl) ?_
    refine va_get (D := G.1) (ci := 0) (v := .ref (ad 10)) (C := RX1) (T := TX1) (N := 12) hx hb hts in_X1 hown hK hP 0 rfl rfl 10 (by decide) (hts _ q505) (fun _ h9 => h9) rfl dX1_firstError_17 ?_
    refine fin_i (ws' := (fun (_ : Unit) => [oC h ad sn hsh, oX (ad 10) 12 [.ref (ad 28), .int (nI 0), .int (bI ml), .int (nI len)], aB G (ad 28) 60 (nF ch), oX q1 9 [.ref u_2, .int (nI u_3.1), .int (nI ((prR ch len).2.1)), .ref h], aI G u_2 240 u_3.2])) hA hS hP hD [1, 2] rfl [(false, 0), (true, 0), (true, 1), (false, 3), (false, 4)] (fun _ => rfl) (by decide) (run_V (As := []) (rest := []) (n9 := 0) hx hb hml hown hts hE hAb hl.1 hS hP hD [1, 2] rfl (by decide) (t_J11_length l G b0 _ (ad 10) (ad 28) len ml ch ) (lw_V q664 q665 q666 q126 q667) 1 rfl rfl ⟨rfl, by decide, by decide, by decide +kernel⟩ ⟨Nat.le_of_ble_eq_true rfl, Nat.le_of_ble_eq_true rfl⟩ ⟨by first | exact Nat.le_of_ble_eq_true rfl | (simp only [rm_X1_firstError, rm_J11_length, rm_X10_init, rm_X10_areWorks]; omega), by first | exact Nat.le_of_ble_eq_true rfl | (simp only [rm_X1_firstError, rm_J11_length, rm_X10_init, rm_X10_areWorks]; omega)⟩ dX1_firstError_20 (Nat.le_of_ble_eq_true rfl) rfl rfl) (fun r_4 u_4 H locs h_4 hP hD hS => ?_)
    have hP : va_P G.1 vwCl [oC h ad sn hsh, oX (ad 10) 12 [.ref (ad 28), .int (nI 0), .int (bI ml), .int (nI len)], aB G (ad 28) 60 (nF ch), oX q1 9 [.ref u_2, .int (nI u_3.1), .int (nI ((prR ch len).2.1)), .ref h], aI G u_2 240 u_3.2] _ := hP
    have hD : va_D A [oC h ad sn hsh, oX (ad 10) 12 [.ref (ad 28), .int (nI 0), .int (bI ml), .int (nI len)], aB G (ad 28) 60 (nF ch), oX q1 9 [.ref u_2, .int (nI u_3.1), .int (nI ((prR ch len).2.1)), .ref h], aI G u_2 240 u_3.2] := hD
    have h_4 : r_4 = (nI len) := h_4
    rw [h_4]
    refine lv_goto (tgt := 30) hx hb dX1_firstError_23 (by decide) ?_
    have hP : va_P G.1 vwCl [oC h ad sn hsh, oX (ad 10) 12 [.ref (ad 28), .int (nI 0), .int (bI ml), .int (nI len)], aB G (ad 28) 60 (nF ch)] _ := hP.sub [0, 1, 2] rfl
    have hD : va_D A [oC h ad sn hsh, oX (ad 10) 12 [.ref (ad 28), .int (nI 0), .int (bI ml), .int (nI len)], aB G (ad 28) 60 (nF ch)] := hD.sub [0, 1, 2] (by decide) rfl
    rw [hQQ]
    exact rt_i hx hb hr hlk  ((())) dX1_firstError_30 hP hD hS (by first | exact Nat.le_of_ble_eq_true rfl | (simp only [rm_X1_firstError, rm_X10_init, rm_X10_areWorks, rm_J11_length]; omega) | omega) (by first | exact Nat.le_of_ble_eq_true rfl | (simp only [rm_X1_firstError, rm_X10_init, rm_X10_areWorks, rm_J11_length]; omega) | omega) (by first | exact congrArg nI (pr_len c_13).symm | rfl)
def rm_X1_whyNot_d : Room := ({ frames := 5, cells := 0, slots := 0, locals := 137 } : Room)
set_option maxHeartbeats 400000 in
set_option maxRecDepth 100000 in
theorem t_X1_whyNot_d (l : Launch) (G : GG) (b0 sz : Nat) (h : Nat) (ad : Nat → Nat) (sn : Value) (hsh : Int64) (L : Nat) (stp why : Int32) (st : Nat → Int32) (li : Nat → Int32) (pa : Nat → Int32) (ot : Nat → Int32) (rm : Nat → Int32) (fo k : Nat) (fd : Nat → Int32) (a b : Nat) (v : Int32) (hk240 : k + 3 < 240) (hL1 : 1 ≤ L) (hL : L ≤ 3) (hf0 : fd k = nI 100) (hf1 : fd (k + 1) = nI a) (hf2 : fd (k + 2) = nI b) (hf3 : fd (k + 3) = v) (hab : a ≤ 7 ∧ b ≤ 7) : CT l yX1_whyNot cX1_whyNot 3 (some FieldType.int) (rm_X1_whyNot_d) G b0 [.ref h, .ref fo, .int (nI k)] [oC h ad sn hsh, oX (ad 1) 1 [.ref (ad 11), .int (nI L), .int stp, .int why], aI G (ad 11) 64 st, oX (ad 3) 5 [.ref (ad 12)], aI G (ad 12) 8 li, aI G (ad 6) 64 pa, aI G (ad 7) 64 ot, aI G (ad 8) 64 rm, aI G fo 240 fd] sz (Ri G (fun (r_ : Int32) (u : Nat → Int32) => r_ = nI (if allB (shsB (joinP L (upd (splitP st L) (8 * a + b) v))) 64 = true then 0 else 1)) (fun (u : Nat → Int32) => [oC h ad sn hsh, oX (ad 1) 1 [.ref (ad 11), .int (nI L), .int stp, .int why], aI G (ad 11) 64 st, oX (ad 3) 5 [.ref (ad 12)], aI G (ad 12) 8 u, aI G (ad 6) 64 (splitP st L), aI G (ad 7) 64 (upd (splitP st L) (8 * a + b) v), aI G (ad 8) 64 (joinP L (upd (splitP st L) (8 * a + b) v)), aI G fo 240 fd])) := by
  refine CT.go (by decide) (Nat.le_of_ble_eq_true rfl) (fun p e s m below meth c A ls AR QQ hx hb hr hlk hml hown hnm hts hE hA hAb hsz hP hD hS hl hQQ => ?_)
  have hK := hE.1
  have hown : s.vm.findClass RX1 = some m.cls := hown
  have hl : lv_has ls 3 [(0, .ref h), (1, .ref fo), (2, .int (nI k))] := hl
  clear hsz
  refine lv_aload_n hx hb dX1_whyNot_0 rfl (lv_at hl 1 rfl) ?_
  refine lv_iload_n hx hb dX1_whyNot_1 rfl (lv_at hl 2 rfl) ?_
  refine N_iald hx hb dX1_whyNot_2 hK hP 8 0 rfl rfl (by omega) (by omega) ?_
  refine top_i (y := nI 100) (hf0) ?_
  refine lv_lookup (tgt := 28) hx hb dX1_whyNot_3 (by decide) (by rfl) (by decide) ?_
  refine lv_aload_n hx hb dX1_whyNot_28 rfl (lv_at hl 0 rfl) ?_
  refine lv_bipush (v := nI 8) hx hb dX1_whyNot_29 (by decide) ?_
  refine lv_aload_n hx hb dX1_whyNot_31 rfl (lv_at hl 1 rfl) ?_
  refine lv_iload_n hx hb dX1_whyNot_32 rfl (lv_at hl 2 rfl) ?_
  refine lv_iconst (v := nI 1) hx hb dX1_whyNot_33 (by decide) ?_
  refine N_iadd hx hb dX1_whyNot_34 ?_
  refine N_iald hx hb dX1_whyNot_35 hK hP 8 0 rfl rfl (by omega) (by omega) ?_
  refine top_i (y := nI a) (hf1) ?_
  refine N_imul hx hb dX1_whyNot_36 ?_
  refine lv_aload_n hx hb dX1_whyNot_37 rfl (lv_at hl 1 rfl) ?_
  refine lv_iload_n hx hb dX1_whyNot_38 rfl (lv_at hl 2 rfl) ?_
  refine lv_iconst (v := nI 2) hx hb dX1_whyNot_39 (by decide) ?_
  refine N_iadd hx hb dX1_whyNot_40 ?_
  refine N_iald hx hb dX1_whyNot_41 hK hP 8 0 rfl rfl (by omega) (by omega) ?_
  refine top_i (y := nI b) (hf2) ?_
  refine N_iadd hx hb dX1_whyNot_42 ?_
  refine lv_aload_n hx hb dX1_whyNot_43 rfl (lv_at hl 1 rfl) ?_
  refine lv_iload_n hx hb dX1_whyNot_44 rfl (lv_at hl 2 rfl) ?_
  refine lv_iconst (v := nI 3) hx hb dX1_whyNot_45 (by decide) ?_
  refine N_iadd hx hb dX1_whyNot_46 ?_
  refine N_iald hx hb dX1_whyNot_47 hK hP 8 0 rfl rfl (by omega) (by omega) ?_
  refine top_i (y := v) (hf3) ?_
  refine fin_i (ws' := (fun (u_1 : Nat → Int32) => [oC h ad sn hsh, oX (ad 1) 1 [.ref (ad 11), .int (nI L), .int stp, .int why], aI G (ad 11) 64 st, oX (ad 3) 5 [.ref (ad 12)], aI G (ad 12) 8 u_1, aI G (ad 6) 64 (splitP st L), aI G (ad 7) 64 (upd (splitP st L) ((8 * a) + b) v), aI G (ad 8) 64 (joinP L (upd (splitP st L) ((8 * a) + b) v)), aI G fo 240 fd])) hA hS hP hD [0, 1, 2, 3, 4, 5, 6, 7] rfl [(true, 0), (true, 1), (true, 2), (true, 3), (true, 4), (true, 5), (true, 6), (true, 7), (false, 8)] (fun _ => rfl) (by decide) (run_V (As := [.int (nI ((8 * a) + b)), .int v]) (rest := []) (n9 := 2) hx hb hml hown hts hE hAb hl.1 hS hP hD [0, 1, 2, 3, 4, 5, 6, 7] rfl (by decide) (t_X1_canSet l G b0 _ h ad sn hsh L stp why st li pa ot rm ((8 * a) + b) v (by omega) (by omega) (by omega)) (lw_V q1421 q1423 qs57 q106 q1424) 0 rfl rfl ⟨rfl, by decide, by decide, by decide +kernel⟩ ⟨Nat.le_of_ble_eq_true rfl, Nat.le_of_ble_eq_true rfl⟩ ⟨by first | exact Nat.le_of_ble_eq_true rfl | (simp only [rm_X1_whyNot_d, rm_X1_canSet]; omega), by first | exact Nat.le_of_ble_eq_true rfl | (simp only [rm_X1_whyNot_d, rm_X1_canSet]; omega)⟩ dX1_whyNot_48 (Nat.le_of_ble_eq_true rfl) rfl rfl) (fun r_1 u_1 H locs h_1 hP hD hS => ?_)
  have hP : va_P G.1 vwCl [oC h ad sn hsh, oX (ad 1) 1 [.ref (ad 11), .int (nI L), .int stp, .int why], aI G (ad 11) 64 st, oX (ad 3) 5 [.ref (ad 12)], aI G (ad 12) 8 u_1, aI G (ad 6) 64 (splitP st L), aI G (ad 7) 64 (upd (splitP st L) ((8 * a) + b) v), aI G (ad 8) 64 (joinP L (upd (splitP st L) ((8 * a) + b) v)), aI G fo 240 fd] _ := hP
  have hD : va_D A [oC h ad sn hsh, oX (ad 1) 1 [.ref (ad 11), .int (nI L), .int stp, .int why], aI G (ad 11) 64 st, oX (ad 3) 5 [.ref (ad 12)], aI G (ad 12) 8 u_1, aI G (ad 6) 64 (splitP st L), aI G (ad 7) 64 (upd (splitP st L) ((8 * a) + b) v), aI G (ad 8) 64 (joinP L (upd (splitP st L) ((8 * a) + b) v)), aI G fo 240 fd] := hD
  have h_1 : r_1 = (bI (allB (shsB (joinP L (upd (splitP st L) ((8 * a) + b) v))) 64)) := h_1
  rw [h_1]
  refine B_if_eq (tgt := 58) hx hb dX1_whyNot_51 (by decide) (fun c_51 => ?_) (fun c_51 => ?_)
  · skip
    refine lv_iconst (v := nI 1) hx hb dX1_whyNot_58 (by decide) ?_
    have hP : va_P G.1 vwCl [oC h ad sn hsh, oX (ad 1) 1 [.ref (ad 11), .int (nI L), .int stp, .int why], aI G (ad 11) 64 st, oX (ad 3) 5 [.ref (ad 12)], aI G (ad 12) 8 u_1, aI G (ad 6) 64 (splitP st L), aI G (ad 7) 64 (upd (splitP st L) (8 * a + b) v), aI G (ad 8) 64 (joinP L (upd (splitP st L) (8 * a + b) v)), aI G fo 240 fd] _ := hP
    have hD : va_D A [oC h ad sn hsh, oX (ad 1) 1 [.ref (ad 11), .int (nI L), .int stp, .int why], aI G (ad 11) 64 st, oX (ad 3) 5 [.ref (ad 12)], aI G (ad 12) 8 u_1, aI G (ad 6) 64 (splitP st L), aI G (ad 7) 64 (upd (splitP st L) (8 * a + b) v), aI G (ad 8) 64 (joinP L (upd (splitP st L) (8 * a + b) v)), aI G fo 240 fd] := hD
    rw [hQQ]
    exact rt_i hx hb hr hlk  u_1 dX1_whyNot_59 hP hD hS (by first | exact Nat.le_of_ble_eq_true rfl | (simp only [rm_X1_whyNot_d, rm_X1_canSet]; omega) | omega) (by first | exact Nat.le_of_ble_eq_true rfl | (simp only [rm_X1_whyNot_d, rm_X1_canSet]; omega) | omega) (by first | (rw [if_pos c_51]) | (rw [if_neg (ne_true_of_eq_false c_51)]))
  · skip
    refine lv_iconst (v := nI 0) hx hb dX1_whyNot_54 (by decide) ?_
    refine lv_goto (tgt := 59) hx hb dX1_whyNot_55 (by decide) ?_
    have hP : va_P G.1 vwCl [oC h ad sn hsh, oX (ad 1) 1 [.ref (ad 11), .int (nI L), .int stp, .int why], aI G (ad 11) 64 st, oX (ad 3) 5 [.ref (ad 12)], aI G (ad 12) 8 u_1, aI G (ad 6) 64 (splitP st L), aI G (ad 7) 64 (upd (splitP st L) (8 * a + b) v), aI G (ad 8) 64 (joinP L (upd (splitP st L) (8 * a + b) v)), aI G fo 240 fd] _ := hP
    have hD : va_D A [oC h ad sn hsh, oX (ad 1) 1 [.ref (ad 11), .int (nI L), .int stp, .int why], aI G (ad 11) 64 st, oX (ad 3) 5 [.ref (ad 12)], aI G (ad 12) 8 u_1, aI G (ad 6) 64 (splitP st L), aI G (ad 7) 64 (upd (splitP st L) (8 * a + b) v), aI G (ad 8) 64 (joinP L (upd (splitP st L) (8 * a + b) v)), aI G fo 240 fd] := hD
    rw [hQQ]
    exact rt_i hx hb hr hlk  u_1 dX1_whyNot_59 hP hD hS (by first | exact Nat.le_of_ble_eq_true rfl | (simp only [rm_X1_whyNot_d, rm_X1_canSet]; omega) | omega) (by first | exact Nat.le_of_ble_eq_true rfl | (simp only [rm_X1_whyNot_d, rm_X1_canSet]; omega) | omega) (by first | (rw [if_pos c_51]) | (rw [if_neg (ne_true_of_eq_false c_51)]))
def rm_X1_whyNot_t : Room := ({ frames := 5, cells := 0, slots := 0, locals := 134 } : Room)
set_option maxHeartbeats 400000 in
set_option maxRecDepth 100000 in
theorem t_X1_whyNot_t (l : Launch) (G : GG) (b0 sz : Nat) (h : Nat) (ad : Nat → Nat) (sn : Value) (hsh : Int64) (L : Nat) (stp why : Int32) (st : Nat → Int32) (li : Nat → Int32) (pa : Nat → Int32) (ot : Nat → Int32) (fo k : Nat) (fd : Nat → Int32) (a : Nat) (hk240 : k + 3 < 240) (hL1 : 1 ≤ L) (hL : L ≤ 3) (hf0 : fd k = nI 116) (hf1 : fd (k + 1) = nI a) : CT l yX1_whyNot cX1_whyNot 3 (some FieldType.int) (rm_X1_whyNot_t) G b0 [.ref h, .ref fo, .int (nI k)] [oC h ad sn hsh, oX (ad 1) 1 [.ref (ad 11), .int (nI L), .int stp, .int why], aI G (ad 11) 64 st, oX (ad 3) 5 [.ref (ad 12)], aI G (ad 12) 8 li, aI G (ad 6) 64 pa, aI G (ad 7) 64 ot, aR G (ad 2) 3 (orF ad), oX (ad (15 + L)) 2 [.ref (ad (16 + 3 * L)), .ref (ad (17 + 3 * L)), .ref (ad (18 + 3 * L)), .int (nI 64)], aI G (ad (18 + 3 * L)) 64 (nF (bnT L)), aI G fo 240 fd] sz (Ri G (fun (r_ : Int32) (u : Nat → Int32) => r_ = nI (if 0 < cntN (crmB L (nI a) (splitP st L)) 64 then 0 else 2)) (fun (u : Nat → Int32) => [oC h ad sn hsh, oX (ad 1) 1 [.ref (ad 11), .int (nI L), .int stp, .int why], aI G (ad 11) 64 st, oX (ad 3) 5 [.ref (ad 12)], aI G (ad 12) 8 u, aI G (ad 6) 64 (splitP st L), aI G (ad 7) 64 (drpA L (nI a) (splitP st L)), aR G (ad 2) 3 (orF ad), oX (ad (15 + L)) 2 [.ref (ad (16 + 3 * L)), .ref (ad (17 + 3 * L)), .ref (ad (18 + 3 * L)), .int (nI 64)], aI G (ad (18 + 3 * L)) 64 (nF (bnT L)), aI G fo 240 fd])) := by
  refine CT.go (by decide) (Nat.le_of_ble_eq_true rfl) (fun p e s m below meth c A ls AR QQ hx hb hr hlk hml hown hnm hts hE hA hAb hsz hP hD hS hl hQQ => ?_)
  have hK := hE.1
  have hown : s.vm.findClass RX1 = some m.cls := hown
  have hl : lv_has ls 3 [(0, .ref h), (1, .ref fo), (2, .int (nI k))] := hl
  clear hsz
  refine lv_aload_n hx hb dX1_whyNot_0 rfl (lv_at hl 1 rfl) ?_
  refine lv_iload_n hx hb dX1_whyNot_1 rfl (lv_at hl 2 rfl) ?_
  refine N_iald hx hb dX1_whyNot_2 hK hP 10 0 rfl rfl (by omega) (by omega) ?_
  refine top_i (y := nI 116) (hf0) ?_
  refine lv_lookup (tgt := 60) hx hb dX1_whyNot_3 (by decide) (by rfl) (by decide) ?_
  refine lv_aload_n hx hb dX1_whyNot_60 rfl (lv_at hl 0 rfl) ?_
  refine lv_aload_n hx hb dX1_whyNot_61 rfl (lv_at hl 1 rfl) ?_
  refine lv_iload_n hx hb dX1_whyNot_62 rfl (lv_at hl 2 rfl) ?_
  refine lv_iconst (v := nI 1) hx hb dX1_whyNot_63 (by decide) ?_
  refine N_iadd hx hb dX1_whyNot_64 ?_
  refine N_iald hx hb dX1_whyNot_65 hK hP 10 0 rfl rfl (by omega) (by omega) ?_
  refine top_i (y := nI a) (hf1) ?_
  refine fin_i (ws' := (fun (u_1 : Nat → Int32) => [oC h ad sn hsh, oX (ad 1) 1 [.ref (ad 11), .int (nI L), .int stp, .int why], aI G (ad 11) 64 st, oX (ad 3) 5 [.ref (ad 12)], aI G (ad 12) 8 u_1, aI G (ad 6) 64 (splitP st L), aI G (ad 7) 64 (drpA L (nI a) (splitP st L)), aR G (ad 2) 3 (orF ad), oX (ad (15 + L)) 2 [.ref (ad (16 + 3 * L)), .ref (ad (17 + 3 * L)), .ref (ad (18 + 3 * L)), .int (nI 64)], aI G (ad (18 + 3 * L)) 64 (nF (bnT L)), aI G fo 240 fd])) hA hS hP hD [0, 1, 2, 3, 4, 5, 6, 7, 8, 9] rfl [(true, 0), (true, 1), (true, 2), (true, 3), (true, 4), (true, 5), (true, 6), (true, 7), (true, 8), (true, 9), (false, 10)] (fun _ => rfl) (by decide) (run_V (As := [.int (nI a)]) (rest := []) (n9 := 1) hx hb hml hown hts hE hAb hl.1 hS hP hD [0, 1, 2, 3, 4, 5, 6, 7, 8, 9] rfl (by decide) (t_X1_drop l G b0 _ h ad sn hsh L stp why st li pa ot (nI a) (by omega) (by omega)) (lw_V q1231 q1233 qs37 q106 q1234) 0 rfl rfl ⟨rfl, by decide, by decide, by decide +kernel⟩ ⟨Nat.le_of_ble_eq_true rfl, Nat.le_of_ble_eq_true rfl⟩ ⟨by first | exact Nat.le_of_ble_eq_true rfl | (simp only [rm_X1_whyNot_t, rm_X1_drop]; omega), by first | exact Nat.le_of_ble_eq_true rfl | (simp only [rm_X1_whyNot_t, rm_X1_drop]; omega)⟩ dX1_whyNot_66 (Nat.le_of_ble_eq_true rfl) rfl rfl) (fun r_1 u_1 H locs h_1 hP hD hS => ?_)
  have hP : va_P G.1 vwCl [oC h ad sn hsh, oX (ad 1) 1 [.ref (ad 11), .int (nI L), .int stp, .int why], aI G (ad 11) 64 st, oX (ad 3) 5 [.ref (ad 12)], aI G (ad 12) 8 u_1, aI G (ad 6) 64 (splitP st L), aI G (ad 7) 64 (drpA L (nI a) (splitP st L)), aR G (ad 2) 3 (orF ad), oX (ad (15 + L)) 2 [.ref (ad (16 + 3 * L)), .ref (ad (17 + 3 * L)), .ref (ad (18 + 3 * L)), .int (nI 64)], aI G (ad (18 + 3 * L)) 64 (nF (bnT L)), aI G fo 240 fd] _ := hP
  have hD : va_D A [oC h ad sn hsh, oX (ad 1) 1 [.ref (ad 11), .int (nI L), .int stp, .int why], aI G (ad 11) 64 st, oX (ad 3) 5 [.ref (ad 12)], aI G (ad 12) 8 u_1, aI G (ad 6) 64 (splitP st L), aI G (ad 7) 64 (drpA L (nI a) (splitP st L)), aR G (ad 2) 3 (orF ad), oX (ad (15 + L)) 2 [.ref (ad (16 + 3 * L)), .ref (ad (17 + 3 * L)), .ref (ad (18 + 3 * L)), .int (nI 64)], aI G (ad (18 + 3 * L)) 64 (nF (bnT L)), aI G fo 240 fd] := hD
  have h_1 : r_1 = (nI (cntN (crmB L (nI a) (splitP st L)) 64)) := h_1
  rw [h_1]
  have hcn := cntN_le (crmB L (nI a) (splitP st L)) 64
  refine N_if_le (tgt := 76) hx hb dX1_whyNot_69 (by decide) (by omega) (fun c_69 => ?_) (fun c_69 => ?_)
  · skip
    refine lv_iconst (v := nI 2) hx hb dX1_whyNot_76 (by decide) ?_
    rw [hQQ]
    exact rt_i hx hb hr hlk  u_1 dX1_whyNot_77 hP hD hS (by first | exact Nat.le_of_ble_eq_true rfl | (simp only [rm_X1_whyNot_t, rm_X1_drop]; omega) | omega) (by first | exact Nat.le_of_ble_eq_true rfl | (simp only [rm_X1_whyNot_t, rm_X1_drop]; omega) | omega) (by first | (rw [if_pos c_69]) | (rw [if_neg (by omega)]))
  · skip
    refine lv_iconst (v := nI 0) hx hb dX1_whyNot_72 (by decide) ?_
    refine lv_goto (tgt := 77) hx hb dX1_whyNot_73 (by decide) ?_
    rw [hQQ]
    exact rt_i hx hb hr hlk  u_1 dX1_whyNot_77 hP hD hS (by first | exact Nat.le_of_ble_eq_true rfl | (simp only [rm_X1_whyNot_t, rm_X1_drop]; omega) | omega) (by first | exact Nat.le_of_ble_eq_true rfl | (simp only [rm_X1_whyNot_t, rm_X1_drop]; omega) | omega) (by first | (rw [if_pos c_69]) | (rw [if_neg (by omega)]))
def rm_X1_whyNot_o : Room := ({ frames := 0, cells := 0, slots := 0, locals := 0 } : Room)
set_option maxHeartbeats 400000 in
set_option maxRecDepth 100000 in
theorem t_X1_whyNot_o (l : Launch) (G : GG) (b0 sz : Nat) (h : Nat) (ad : Nat → Nat) (sn : Value) (hsh : Int64) (fo k : Nat) (fd : Nat → Int32) (cd : Nat) (hk240 : k + 3 < 240) (hf0 : fd k = nI cd) (hcd : cd < 1000 ∧ cd ≠ 100 ∧ cd ≠ 116) : CT l yX1_whyNot cX1_whyNot 3 (some FieldType.int) (rm_X1_whyNot_o) G b0 [.ref h, .ref fo, .int (nI k)] [oC h ad sn hsh, aI G fo 240 fd] sz (Ri G (fun (r_ : Int32) (_ : Unit) => r_ = nI 0) (fun (_ : Unit) => [oC h ad sn hsh, aI G fo 240 fd])) := by
  refine CT.go (by decide) (Nat.le_of_ble_eq_true rfl) (fun p e s m below meth c A ls AR QQ hx hb hr hlk hml hown hnm hts hE hA hAb hsz hP hD hS hl hQQ => ?_)
  have hK := hE.1
  have hown : s.vm.findClass RX1 = some m.cls := hown
  have hl : lv_has ls 3 [(0, .ref h), (1, .ref fo), (2, .int (nI k))] := hl
  clear hsz
  refine lv_aload_n hx hb dX1_whyNot_0 rfl (lv_at hl 1 rfl) ?_
  refine lv_iload_n hx hb dX1_whyNot_1 rfl (lv_at hl 2 rfl) ?_
  refine N_iald hx hb dX1_whyNot_2 hK hP 1 0 rfl rfl (by omega) (by omega) ?_
  refine top_i (y := nI cd) (hf0) ?_
  by_cases c_3_100 : cd = 100
  · rw [show nI cd = nI 100 by rw [c_3_100]]
    refine lv_lookup (tgt := 28) hx hb dX1_whyNot_3 (by decide) (by rfl) (by decide) ?_
    exfalso; omega
  by_cases c_3_116 : cd = 116
  · rw [show nI cd = nI 116 by rw [c_3_116]]
    refine lv_lookup (tgt := 60) hx hb dX1_whyNot_3 (by decide) (by rfl) (by decide) ?_
    exfalso; omega
  refine N_lokD (tgt := 78) hx hb dX1_whyNot_3 (by decide) (by omega) (fun q hq => by have hq : q ∈ ([(100, 25), (116, 57)] : List (Int × Int)) := hq; simp only [List.mem_cons, List.not_mem_nil, or_false] at hq; rcases hq with e9 | e9 <;> rw [e9] <;> (dsimp only; omega)) (by decide) ?_
  refine lv_iconst (v := nI 0) hx hb dX1_whyNot_78 (by decide) ?_
  rw [hQQ]
  exact rt_i hx hb hr hlk  ((())) dX1_whyNot_79 hP hD hS (by first | exact Nat.le_of_ble_eq_true rfl | (simp only [rm_X1_whyNot_o]; omega) | omega) (by first | exact Nat.le_of_ble_eq_true rfl | (simp only [rm_X1_whyNot_o]; omega) | omega) (by rfl)
def rm_X1_act_p : Room := ({ frames := 1, cells := 0, slots := 0, locals := 23 } : Room)
set_option maxHeartbeats 400000 in
set_option maxRecDepth 100000 in
theorem t_X1_act_p (l : Launch) (G : GG) (b0 sz : Nat) (h : Nat) (ad : Nat → Nat) (sn : Value) (hsh : Int64) (L : Nat) (stp why : Int32) (st : Nat → Int32) (fo k : Nat) (fd : Nat → Int32) (a b : Nat) (v : Int32) (hk240 : k + 3 < 240) (hf0 : fd k = nI 112) (hf1 : fd (k + 1) = nI a) (hf2 : fd (k + 2) = nI b) (hf3 : fd (k + 3) = v) (hab : a ≤ 7 ∧ b ≤ 7) : CT l yX1_act cX1_act 3 none (rm_X1_act_p) G b0 [.ref h, .ref fo, .int (nI k)] [oC h ad sn hsh, oX (ad 1) 1 [.ref (ad 11), .int (nI L), .int stp, .int why], aI G (ad 11) 64 st, aI G fo 240 fd] sz (Rv G (fun (_ : Unit) => True) (fun (_ : Unit) => [oC h ad sn hsh, oX (ad 1) 1 [.ref (ad 11), .int (nI L), .int stp, .int why], aI G (ad 11) 64 (upd st (8 * a + b) v), aI G fo 240 fd])) := by
  refine CT.go (by decide) (Nat.le_of_ble_eq_true rfl) (fun p e s m below meth c A ls AR QQ hx hb hr hlk hml hown hnm hts hE hA hAb hsz hP hD hS hl hQQ => ?_)
  have hK := hE.1
  have hown : s.vm.findClass RX1 = some m.cls := hown
  have hl : lv_has ls 3 [(0, .ref h), (1, .ref fo), (2, .int (nI k))] := hl
  clear hsz
  refine lv_aload_n hx hb dX1_act_0 rfl (lv_at hl 1 rfl) ?_
  refine lv_iload_n hx hb dX1_act_1 rfl (lv_at hl 2 rfl) ?_
  refine N_iald hx hb dX1_act_2 hK hP 3 0 rfl rfl (by omega) (by omega) ?_
  refine top_i (y := nI 112) (hf0) ?_
  refine lv_tableIn (tgt := 84) hx hb dX1_act_3 (by decide) (by decide) (by rfl) (by decide) ?_
  refine lv_aload_n hx hb dX1_act_84 rfl (lv_at hl 0 rfl) ?_
  refine va_get (D := G.1) (ci := 0) (v := .ref (ad 1)) (C := RX1) (T := TX1) (N := 12) hx hb hts in_X1 hown hK hP 0 rfl rfl 0 (by decide) (hts _ q494) (fun _ h9 => h9) rfl dX1_act_85 ?_
  refine lv_bipush (v := nI 8) hx hb dX1_act_88 (by decide) ?_
  refine lv_aload_n hx hb dX1_act_90 rfl (lv_at hl 1 rfl) ?_
  refine lv_iload_n hx hb dX1_act_91 rfl (lv_at hl 2 rfl) ?_
  refine lv_iconst (v := nI 1) hx hb dX1_act_92 (by decide) ?_
  refine N_iadd hx hb dX1_act_93 ?_
  refine N_iald hx hb dX1_act_94 hK hP 3 0 rfl rfl (by omega) (by omega) ?_
  refine top_i (y := nI a) (hf1) ?_
  refine N_imul hx hb dX1_act_95 ?_
  refine lv_aload_n hx hb dX1_act_96 rfl (lv_at hl 1 rfl) ?_
  refine lv_iload_n hx hb dX1_act_97 rfl (lv_at hl 2 rfl) ?_
  refine lv_iconst (v := nI 2) hx hb dX1_act_98 (by decide) ?_
  refine N_iadd hx hb dX1_act_99 ?_
  refine N_iald hx hb dX1_act_100 hK hP 3 0 rfl rfl (by omega) (by omega) ?_
  refine top_i (y := nI b) (hf2) ?_
  refine N_iadd hx hb dX1_act_101 ?_
  refine lv_aload_n hx hb dX1_act_102 rfl (lv_at hl 1 rfl) ?_
  refine lv_iload_n hx hb dX1_act_103 rfl (lv_at hl 2 rfl) ?_
  refine lv_iconst (v := nI 3) hx hb dX1_act_104 (by decide) ?_
  refine N_iadd hx hb dX1_act_105 ?_
  refine N_iald hx hb dX1_act_106 hK hP 3 0 rfl rfl (by omega) (by omega) ?_
  refine top_i (y := v) (hf3) ?_
  refine fin_i (ws' := (fun (_ : Unit) => [oC h ad sn hsh, oX (ad 1) 1 [.ref (ad 11), .int (nI L), .int stp, .int why], aI G (ad 11) 64 (upd st ((8 * a) + b) v), aI G fo 240 fd])) hA hS hP hD [1, 2] rfl [(false, 0), (true, 0), (true, 1), (false, 3)] (fun _ => rfl) (by decide) (run_V (As := [.int (nI ((8 * a) + b)), .int v]) (rest := []) (n9 := 2) hx hb hml hown hts hE hAb hl.1 hS hP hD [1, 2] rfl (by decide) (t_X2_setShade l G b0 _ (ad 1) (ad 11) st (nI L) stp why ((8 * a) + b) v (by omega)) (lw_V q1383 q641 q642 q107 q643) 1 rfl rfl ⟨rfl, by decide, by decide, by decide +kernel⟩ ⟨Nat.le_of_ble_eq_true rfl, Nat.le_of_ble_eq_true rfl⟩ ⟨by first | exact Nat.le_of_ble_eq_true rfl | (simp only [rm_X1_act_p, rm_X2_setShade]; omega), by first | exact Nat.le_of_ble_eq_true rfl | (simp only [rm_X1_act_p, rm_X2_setShade]; omega)⟩ dX1_act_107 (Nat.le_of_ble_eq_true rfl) rfl rfl) (fun r_1 u_1 H locs h_1 hP hD hS => ?_)
  have hP : va_P G.1 vwCl [oC h ad sn hsh, oX (ad 1) 1 [.ref (ad 11), .int (nI L), .int stp, .int why], aI G (ad 11) 64 (upd st ((8 * a) + b) v), aI G fo 240 fd] _ := hP
  have hD : va_D A [oC h ad sn hsh, oX (ad 1) 1 [.ref (ad 11), .int (nI L), .int stp, .int why], aI G (ad 11) 64 (upd st ((8 * a) + b) v), aI G fo 240 fd] := hD
  have h_1 : r_1 = (st ((8 * a) + b)) := h_1
  rw [h_1]
  refine lv_pop hx hb dX1_act_110 rfl ?_
  refine lv_goto (tgt := 200) hx hb dX1_act_111 (by decide) ?_
  have hP : va_P G.1 vwCl [oC h ad sn hsh, oX (ad 1) 1 [.ref (ad 11), .int (nI L), .int stp, .int why], aI G (ad 11) 64 (upd st (8 * a + b) v), aI G fo 240 fd] _ := hP
  have hD : va_D A [oC h ad sn hsh, oX (ad 1) 1 [.ref (ad 11), .int (nI L), .int stp, .int why], aI G (ad 11) 64 (upd st (8 * a + b) v), aI G fo 240 fd] := hD
  rw [hQQ]
  exact rt_v hx hb hr hlk ((())) dX1_act_200 hP hD hS (by first | exact Nat.le_of_ble_eq_true rfl | (simp only [rm_X1_act_p, rm_X2_setShade]; omega) | omega) (by first | exact Nat.le_of_ble_eq_true rfl | (simp only [rm_X1_act_p, rm_X2_setShade]; omega) | omega) trivial
def rm_X1_act_d : Room := ({ frames := 2, cells := 0, slots := 0, locals := 46 } : Room)
set_option maxHeartbeats 400000 in
set_option maxRecDepth 100000 in
theorem t_X1_act_d (l : Launch) (G : GG) (b0 sz : Nat) (h : Nat) (ad : Nat → Nat) (sn : Value) (hsh : Int64) (L : Nat) (stp why : Int32) (st : Nat → Int32) (rm : Nat → Int32) (fo k : Nat) (fd : Nat → Int32) (hk240 : k + 3 < 240) (hf0 : fd k = nI 100) : CT l yX1_act cX1_act 3 none (rm_X1_act_d) G b0 [.ref h, .ref fo, .int (nI k)] [oC h ad sn hsh, oX (ad 1) 1 [.ref (ad 11), .int (nI L), .int stp, .int why], aI G (ad 11) 64 st, aI G (ad 8) 64 rm, aI G fo 240 fd] sz (Rv G (fun (_ : Unit) => True) (fun (_ : Unit) => [oC h ad sn hsh, oX (ad 1) 1 [.ref (ad 11), .int (nI L), .int stp, .int why], aI G (ad 11) 64 rm, aI G (ad 8) 64 rm, aI G fo 240 fd])) := by
  refine CT.go (by decide) (Nat.le_of_ble_eq_true rfl) (fun p e s m below meth c A ls AR QQ hx hb hr hlk hml hown hnm hts hE hA hAb hsz hP hD hS hl hQQ => ?_)
  have hK := hE.1
  have hown : s.vm.findClass RX1 = some m.cls := hown
  have hl : lv_has ls 3 [(0, .ref h), (1, .ref fo), (2, .int (nI k))] := hl
  clear hsz
  refine lv_aload_n hx hb dX1_act_0 rfl (lv_at hl 1 rfl) ?_
  refine lv_iload_n hx hb dX1_act_1 rfl (lv_at hl 2 rfl) ?_
  refine N_iald hx hb dX1_act_2 hK hP 4 0 rfl rfl (by omega) (by omega) ?_
  refine top_i (y := nI 100) (hf0) ?_
  refine lv_tableIn (tgt := 114) hx hb dX1_act_3 (by decide) (by decide) (by rfl) (by decide) ?_
  refine lv_aload_n hx hb dX1_act_114 rfl (lv_at hl 0 rfl) ?_
  refine va_get (D := G.1) (ci := 0) (v := .ref (ad 1)) (C := RX1) (T := TX1) (N := 12) hx hb hts in_X1 hown hK hP 0 rfl rfl 0 (by decide) (hts _ q494) (fun _ h9 => h9) rfl dX1_act_115 ?_
  refine lv_aload_n hx hb dX1_act_118 rfl (lv_at hl 0 rfl) ?_
  refine va_get (D := G.1) (ci := 0) (v := .ref (ad 8)) (C := RX1) (T := TX1) (N := 12) hx hb hts in_X1 hown hK hP 0 rfl rfl 7 (by decide) (hts _ q501) (fun _ h9 => h9) rfl dX1_act_119 ?_
  refine fin_i (ws' := (fun (_ : Unit) => [oC h ad sn hsh, oX (ad 1) 1 [.ref (ad 11), .int (nI L), .int stp, .int why], aI G (ad 11) 64 rm, aI G (ad 8) 64 rm, aI G fo 240 fd])) hA hS hP hD [1, 2, 3] rfl [(false, 0), (true, 0), (true, 1), (true, 2), (false, 4)] (fun _ => rfl) (by decide) (run_V (As := [.ref (ad 8)]) (rest := []) (n9 := 1) hx hb hml hown hts hE hAb hl.1 hS hP hD [1, 2, 3] rfl (by decide) (t_X2_take l G b0 _ (ad 1) (ad 11) st (nI L) stp why (ad 8) rm ) (lw_V q1426 q637 q638 q107 q639) 1 rfl rfl ⟨rfl, by decide, by decide, by decide +kernel⟩ ⟨Nat.le_of_ble_eq_true rfl, Nat.le_of_ble_eq_true rfl⟩ ⟨by first | exact Nat.le_of_ble_eq_true rfl | (simp only [rm_X1_act_d, rm_X2_take]; omega), by first | exact Nat.le_of_ble_eq_true rfl | (simp only [rm_X1_act_d, rm_X2_take]; omega)⟩ dX1_act_122 (Nat.le_of_ble_eq_true rfl) rfl rfl) (fun r_1 u_1 H locs h_1 hP hD hS => ?_)
  have hP : va_P G.1 vwCl [oC h ad sn hsh, oX (ad 1) 1 [.ref (ad 11), .int (nI L), .int stp, .int why], aI G (ad 11) 64 rm, aI G (ad 8) 64 rm, aI G fo 240 fd] _ := hP
  have hD : va_D A [oC h ad sn hsh, oX (ad 1) 1 [.ref (ad 11), .int (nI L), .int stp, .int why], aI G (ad 11) 64 rm, aI G (ad 8) 64 rm, aI G fo 240 fd] := hD
  have h_1 : r_1 = (l_sum (dne st rm) 64) := h_1
  rw [h_1]
  refine lv_pop hx hb dX1_act_125 rfl ?_
  refine lv_goto (tgt := 200) hx hb dX1_act_126 (by decide) ?_
  rw [hQQ]
  exact rt_v hx hb hr hlk ((())) dX1_act_200 hP hD hS (by first | exact Nat.le_of_ble_eq_true rfl | (simp only [rm_X1_act_d, rm_X2_take]; omega) | omega) (by first | exact Nat.le_of_ble_eq_true rfl | (simp only [rm_X1_act_d, rm_X2_take]; omega) | omega) trivial
def rm_X1_act_t : Room := ({ frames := 4, cells := 0, slots := 0, locals := 103 } : Room)
set_option maxHeartbeats 400000 in
set_option maxRecDepth 100000 in
theorem t_X1_act_t (l : Launch) (G : GG) (b0 sz : Nat) (h : Nat) (ad : Nat → Nat) (sn : Value) (hsh : Int64) (L : Nat) (stp why : Int32) (st : Nat → Int32) (li : Nat → Int32) (ot : Nat → Int32) (rm : Nat → Int32) (fo k : Nat) (fd : Nat → Int32) (hk240 : k + 3 < 240) (hL1 : 1 ≤ L) (hL : L ≤ 3) (hf0 : fd k = nI 116) : CT l yX1_act cX1_act 3 none (rm_X1_act_t) G b0 [.ref h, .ref fo, .int (nI k)] [oC h ad sn hsh, oX (ad 1) 1 [.ref (ad 11), .int (nI L), .int stp, .int why], aI G (ad 11) 64 st, oX (ad 3) 5 [.ref (ad 12)], aI G (ad 12) 8 li, aI G (ad 7) 64 ot, aI G (ad 8) 64 rm, aI G fo 240 fd] sz (Rv G (fun (u : Nat → Int32) => True) (fun (u : Nat → Int32) => [oC h ad sn hsh, oX (ad 1) 1 [.ref (ad 11), .int (nI L), .int stp, .int why], aI G (ad 11) 64 (clmF (joinP L ot)), oX (ad 3) 5 [.ref (ad 12)], aI G (ad 12) 8 u, aI G (ad 7) 64 ot, aI G (ad 8) 64 (clmF (joinP L ot)), aI G fo 240 fd])) := by
  refine CT.go (by decide) (Nat.le_of_ble_eq_true rfl) (fun p e s m below meth c A ls AR QQ hx hb hr hlk hml hown hnm hts hE hA hAb hsz hP hD hS hl hQQ => ?_)
  have hK := hE.1
  have hown : s.vm.findClass RX1 = some m.cls := hown
  have hl : lv_has ls 3 [(0, .ref h), (1, .ref fo), (2, .int (nI k))] := hl
  clear hsz
  refine lv_aload_n hx hb dX1_act_0 rfl (lv_at hl 1 rfl) ?_
  refine lv_iload_n hx hb dX1_act_1 rfl (lv_at hl 2 rfl) ?_
  refine N_iald hx hb dX1_act_2 hK hP 7 0 rfl rfl (by omega) (by omega) ?_
  refine top_i (y := nI 116) (hf0) ?_
  refine lv_tableIn (tgt := 129) hx hb dX1_act_3 (by decide) (by decide) (by rfl) (by decide) ?_
  refine lv_aload_n hx hb dX1_act_129 rfl (lv_at hl 0 rfl) ?_
  refine va_get (D := G.1) (ci := 0) (v := .ref (ad 1)) (C := RX1) (T := TX1) (N := 12) hx hb hts in_X1 hown hK hP 0 rfl rfl 0 (by decide) (hts _ q494) (fun _ h9 => h9) rfl dX1_act_130 ?_
  refine lv_aload_n hx hb dX1_act_133 rfl (lv_at hl 0 rfl) ?_
  refine fin_r (ws' := (fun (u_1 : Nat → Int32) => [oC h ad sn hsh, oX (ad 1) 1 [.ref (ad 11), .int (nI L), .int stp, .int why], aI G (ad 11) 64 st, oX (ad 3) 5 [.ref (ad 12)], aI G (ad 12) 8 u_1, aI G (ad 7) 64 ot, aI G (ad 8) 64 (clmF (joinP L ot)), aI G fo 240 fd])) hA hS hP hD [0, 1, 3, 4, 5, 6] rfl [(true, 0), (true, 1), (false, 2), (true, 2), (true, 3), (true, 4), (true, 5), (false, 7)] (fun _ => rfl) (by decide) (run_V (As := []) (rest := [.ref (ad 1)]) (n9 := 0) hx hb hml hown hts hE hAb hl.1 hS hP hD [0, 1, 3, 4, 5, 6] rfl (by decide) (t_X1_backOfOthers l G b0 _ h ad sn hsh L stp why li ot rm (by omega) (by omega)) (lw_V q1244 q1246 qs40 q106 q1247) 0 rfl rfl ⟨rfl, by decide, by decide, by decide +kernel⟩ ⟨Nat.le_of_ble_eq_true rfl, Nat.le_of_ble_eq_true rfl⟩ ⟨by first | exact Nat.le_of_ble_eq_true rfl | (simp only [rm_X1_act_t, rm_X1_backOfOthers]; omega), by first | exact Nat.le_of_ble_eq_true rfl | (simp only [rm_X1_act_t, rm_X1_backOfOthers]; omega)⟩ dX1_act_134 (Nat.le_of_ble_eq_true rfl) rfl rfl) (fun u_1 H locs h_1 hP hD hS => ?_)
  have hP : va_P G.1 vwCl [oC h ad sn hsh, oX (ad 1) 1 [.ref (ad 11), .int (nI L), .int stp, .int why], aI G (ad 11) 64 st, oX (ad 3) 5 [.ref (ad 12)], aI G (ad 12) 8 u_1, aI G (ad 7) 64 ot, aI G (ad 8) 64 (clmF (joinP L ot)), aI G fo 240 fd] _ := hP
  have hD : va_D A [oC h ad sn hsh, oX (ad 1) 1 [.ref (ad 11), .int (nI L), .int stp, .int why], aI G (ad 11) 64 st, oX (ad 3) 5 [.ref (ad 12)], aI G (ad 12) 8 u_1, aI G (ad 7) 64 ot, aI G (ad 8) 64 (clmF (joinP L ot)), aI G fo 240 fd] := hD
  refine W.eq (g2 := F0 m 137 ls [.ref (ad 8), .ref (ad 1)]) rfl ?_
  refine fin_i (ws' := (fun (_ : Unit) => [oC h ad sn hsh, oX (ad 1) 1 [.ref (ad 11), .int (nI L), .int stp, .int why], aI G (ad 11) 64 (clmF (joinP L ot)), oX (ad 3) 5 [.ref (ad 12)], aI G (ad 12) 8 u_1, aI G (ad 7) 64 ot, aI G (ad 8) 64 (clmF (joinP L ot)), aI G fo 240 fd])) hA hS hP hD [1, 2, 6] rfl [(false, 0), (true, 0), (true, 1), (false, 3), (false, 4), (false, 5), (true, 2), (false, 7)] (fun _ => rfl) (by decide) (run_V (As := [.ref (ad 8)]) (rest := []) (n9 := 1) hx hb hml hown hts hE hAb hl.1 hS hP hD [1, 2, 6] rfl (by decide) (t_X2_take l G b0 _ (ad 1) (ad 11) st (nI L) stp why (ad 8) (clmF (joinP L ot)) ) (lw_V q1426 q637 q638 q107 q639) 1 rfl rfl ⟨rfl, by decide, by decide, by decide +kernel⟩ ⟨Nat.le_of_ble_eq_true rfl, Nat.le_of_ble_eq_true rfl⟩ ⟨by first | exact Nat.le_of_ble_eq_true rfl | (simp only [rm_X1_act_t, rm_X2_take, rm_X1_backOfOthers]; omega), by first | exact Nat.le_of_ble_eq_true rfl | (simp only [rm_X1_act_t, rm_X2_take, rm_X1_backOfOthers]; omega)⟩ dX1_act_137 (Nat.le_of_ble_eq_true rfl) rfl rfl) (fun r_2 u_2 H locs h_2 hP hD hS => ?_)
  have hP : va_P G.1 vwCl [oC h ad sn hsh, oX (ad 1) 1 [.ref (ad 11), .int (nI L), .int stp, .int why], aI G (ad 11) 64 (clmF (joinP L ot)), oX (ad 3) 5 [.ref (ad 12)], aI G (ad 12) 8 u_1, aI G (ad 7) 64 ot, aI G (ad 8) 64 (clmF (joinP L ot)), aI G fo 240 fd] _ := hP
  have hD : va_D A [oC h ad sn hsh, oX (ad 1) 1 [.ref (ad 11), .int (nI L), .int stp, .int why], aI G (ad 11) 64 (clmF (joinP L ot)), oX (ad 3) 5 [.ref (ad 12)], aI G (ad 12) 8 u_1, aI G (ad 7) 64 ot, aI G (ad 8) 64 (clmF (joinP L ot)), aI G fo 240 fd] := hD
  have h_2 : r_2 = (l_sum (dne st (clmF (joinP L ot))) 64) := h_2
  rw [h_2]
  refine lv_pop hx hb dX1_act_140 rfl ?_
  refine lv_goto (tgt := 200) hx hb dX1_act_141 (by decide) ?_
  rw [hQQ]
  exact rt_v hx hb hr hlk u_1 dX1_act_200 hP hD hS (by first | exact Nat.le_of_ble_eq_true rfl | (simp only [rm_X1_act_t, rm_X1_backOfOthers, rm_X2_take]; omega) | omega) (by first | exact Nat.le_of_ble_eq_true rfl | (simp only [rm_X1_act_t, rm_X1_backOfOthers, rm_X2_take]; omega) | omega) trivial
def rm_X1_act_l : Room := ({ frames := 1, cells := 0, slots := 0, locals := 22 } : Room)
set_option maxHeartbeats 400000 in
set_option maxRecDepth 100000 in
theorem t_X1_act_l (l : Launch) (G : GG) (b0 sz : Nat) (h : Nat) (ad : Nat → Nat) (sn : Value) (hsh : Int64) (L : Nat) (stp why : Int32) (st : Nat → Int32) (fo k : Nat) (fd : Nat → Int32) (a : Nat) (hk240 : k + 3 < 240) (hf0 : fd k = nI 108) (hf1 : fd (k + 1) = nI a) : CT l yX1_act cX1_act 3 none (rm_X1_act_l) G b0 [.ref h, .ref fo, .int (nI k)] [oC h ad sn hsh, oX (ad 1) 1 [.ref (ad 11), .int (nI L), .int stp, .int why], aI G (ad 11) 64 st, aI G fo 240 fd] sz (Rv G (fun (_ : Unit) => True) (fun (_ : Unit) => [oC h ad sn hsh, oX (ad 1) 1 [.ref (ad 11), .int (nI a), .int stp, .int why], aI G (ad 11) 64 st, aI G fo 240 fd])) := by
  refine CT.go (by decide) (Nat.le_of_ble_eq_true rfl) (fun p e s m below meth c A ls AR QQ hx hb hr hlk hml hown hnm hts hE hA hAb hsz hP hD hS hl hQQ => ?_)
  have hK := hE.1
  have hown : s.vm.findClass RX1 = some m.cls := hown
  have hl : lv_has ls 3 [(0, .ref h), (1, .ref fo), (2, .int (nI k))] := hl
  clear hsz
  refine lv_aload_n hx hb dX1_act_0 rfl (lv_at hl 1 rfl) ?_
  refine lv_iload_n hx hb dX1_act_1 rfl (lv_at hl 2 rfl) ?_
  refine N_iald hx hb dX1_act_2 hK hP 3 0 rfl rfl (by omega) (by omega) ?_
  refine top_i (y := nI 108) (hf0) ?_
  refine lv_tableIn (tgt := 144) hx hb dX1_act_3 (by decide) (by decide) (by rfl) (by decide) ?_
  refine lv_aload_n hx hb dX1_act_144 rfl (lv_at hl 0 rfl) ?_
  refine va_get (D := G.1) (ci := 0) (v := .ref (ad 1)) (C := RX1) (T := TX1) (N := 12) hx hb hts in_X1 hown hK hP 0 rfl rfl 0 (by decide) (hts _ q494) (fun _ h9 => h9) rfl dX1_act_145 ?_
  refine lv_aload_n hx hb dX1_act_148 rfl (lv_at hl 1 rfl) ?_
  refine lv_iload_n hx hb dX1_act_149 rfl (lv_at hl 2 rfl) ?_
  refine lv_iconst (v := nI 1) hx hb dX1_act_150 (by decide) ?_
  refine N_iadd hx hb dX1_act_151 ?_
  refine N_iald hx hb dX1_act_152 hK hP 3 0 rfl rfl (by omega) (by omega) ?_
  refine top_i (y := nI a) (hf1) ?_
  refine fin_i (ws' := (fun (_ : Unit) => [oC h ad sn hsh, oX (ad 1) 1 [.ref (ad 11), .int (nI a), .int stp, .int why], aI G (ad 11) 64 st, aI G fo 240 fd])) hA hS hP hD [1, 2] rfl [(false, 0), (true, 0), (true, 1), (false, 3)] (fun _ => rfl) (by decide) (run_V (As := [.int (nI a)]) (rest := []) (n9 := 1) hx hb hml hown hts hE hAb hl.1 hS hP hD [1, 2] rfl (by decide) (t_X2_setLevels l G b0 _ (ad 1) (ad 11) st (nI L) stp why (nI a) ) (lw_V q1444 q1445 q1446 q107 q1447) 1 rfl rfl ⟨rfl, by decide, by decide, by decide +kernel⟩ ⟨Nat.le_of_ble_eq_true rfl, Nat.le_of_ble_eq_true rfl⟩ ⟨by first | exact Nat.le_of_ble_eq_true rfl | (simp only [rm_X1_act_l, rm_X2_setLevels]; omega), by first | exact Nat.le_of_ble_eq_true rfl | (simp only [rm_X1_act_l, rm_X2_setLevels]; omega)⟩ dX1_act_153 (Nat.le_of_ble_eq_true rfl) rfl rfl) (fun r_1 u_1 H locs h_1 hP hD hS => ?_)
  have hP : va_P G.1 vwCl [oC h ad sn hsh, oX (ad 1) 1 [.ref (ad 11), .int (nI a), .int stp, .int why], aI G (ad 11) 64 st, aI G fo 240 fd] _ := hP
  have hD : va_D A [oC h ad sn hsh, oX (ad 1) 1 [.ref (ad 11), .int (nI a), .int stp, .int why], aI G (ad 11) 64 st, aI G fo 240 fd] := hD
  have h_1 : r_1 = (nI L) := h_1
  rw [h_1]
  refine lv_pop hx hb dX1_act_156 rfl ?_
  refine lv_goto (tgt := 200) hx hb dX1_act_157 (by decide) ?_
  rw [hQQ]
  exact rt_v hx hb hr hlk ((())) dX1_act_200 hP hD hS (by first | exact Nat.le_of_ble_eq_true rfl | (simp only [rm_X1_act_l, rm_X2_setLevels]; omega) | omega) (by first | exact Nat.le_of_ble_eq_true rfl | (simp only [rm_X1_act_l, rm_X2_setLevels]; omega) | omega) trivial
def rm_X1_act_r : Room := ({ frames := 3, cells := 0, slots := 0, locals := 71 } : Room)
set_option maxHeartbeats 400000 in
set_option maxRecDepth 100000 in
theorem t_X1_act_r (l : Launch) (G : GG) (b0 sz : Nat) (h : Nat) (ad : Nat → Nat) (sn : Value) (hsh : Int64) (L : Nat) (stp why : Int32) (st : Nat → Int32) (rm : Nat → Int32) (fo k : Nat) (fd : Nat → Int32) (hk240 : k + 3 < 240) (hf0 : fd k = nI 114) : CT l yX1_act cX1_act 3 none (rm_X1_act_r) G b0 [.ref h, .ref fo, .int (nI k)] [oC h ad sn hsh, oX (ad 1) 1 [.ref (ad 11), .int (nI L), .int stp, .int why], aI G (ad 11) 64 st, aI G (ad 8) 64 rm, aI G fo 240 fd] sz (Rv G (fun (_ : Unit) => True) (fun (_ : Unit) => [oC h ad sn hsh, oX (ad 1) 1 [.ref (ad 11), .int (nI L), .int stp, .int why], aI G (ad 11) 64 (turnF false st), aI G (ad 8) 64 (turnF false st), aI G fo 240 fd])) := by
  refine CT.go (by decide) (Nat.le_of_ble_eq_true rfl) (fun p e s m below meth c A ls AR QQ hx hb hr hlk hml hown hnm hts hE hA hAb hsz hP hD hS hl hQQ => ?_)
  have hK := hE.1
  have hown : s.vm.findClass RX1 = some m.cls := hown
  have hl : lv_has ls 3 [(0, .ref h), (1, .ref fo), (2, .int (nI k))] := hl
  clear hsz
  refine lv_aload_n hx hb dX1_act_0 rfl (lv_at hl 1 rfl) ?_
  refine lv_iload_n hx hb dX1_act_1 rfl (lv_at hl 2 rfl) ?_
  refine N_iald hx hb dX1_act_2 hK hP 4 0 rfl rfl (by omega) (by omega) ?_
  refine top_i (y := nI 114) (hf0) ?_
  refine lv_tableIn (tgt := 160) hx hb dX1_act_3 (by decide) (by decide) (by rfl) (by decide) ?_
  refine lv_aload_n hx hb dX1_act_160 rfl (lv_at hl 0 rfl) ?_
  refine va_get (D := G.1) (ci := 0) (v := .ref (ad 1)) (C := RX1) (T := TX1) (N := 12) hx hb hts in_X1 hown hK hP 0 rfl rfl 0 (by decide) (hts _ q494) (fun _ h9 => h9) rfl dX1_act_161 ?_
  refine lv_aload_n hx hb dX1_act_164 rfl (lv_at hl 0 rfl) ?_
  refine va_get (D := G.1) (ci := 0) (v := .ref (ad 8)) (C := RX1) (T := TX1) (N := 12) hx hb hts in_X1 hown hK hP 0 rfl rfl 7 (by decide) (hts _ q501) (fun _ h9 => h9) rfl dX1_act_165 ?_
  refine lv_iconst (v := nI 0) hx hb dX1_act_168 (by decide) ?_
  refine fin_i (ws' := (fun (_ : Unit) => [oC h ad sn hsh, oX (ad 1) 1 [.ref (ad 11), .int (nI L), .int stp, .int why], aI G (ad 11) 64 (turnF false st), aI G (ad 8) 64 (turnF false st), aI G fo 240 fd])) hA hS hP hD [1, 2, 3] rfl [(false, 0), (true, 0), (true, 1), (true, 2), (false, 4)] (fun _ => rfl) (by decide) (run_V (As := [.ref (ad 8), .int (nI 0)]) (rest := []) (n9 := 2) hx hb hml hown hts hE hAb hl.1 hS hP hD [1, 2, 3] rfl (by decide) (t_X2_turn l G b0 _ (ad 1) (ad 11) st (nI L) stp why (ad 8) rm false ) (lw_V q632 q633 q634 q107 q635) 1 rfl rfl ⟨rfl, by decide, by decide, by decide +kernel⟩ ⟨Nat.le_of_ble_eq_true rfl, Nat.le_of_ble_eq_true rfl⟩ ⟨by first | exact Nat.le_of_ble_eq_true rfl | (simp only [rm_X1_act_r, rm_X2_turn]; omega), by first | exact Nat.le_of_ble_eq_true rfl | (simp only [rm_X1_act_r, rm_X2_turn]; omega)⟩ dX1_act_169 (Nat.le_of_ble_eq_true rfl) rfl rfl) (fun r_1 u_1 H locs h_1 hP hD hS => ?_)
  have hP : va_P G.1 vwCl [oC h ad sn hsh, oX (ad 1) 1 [.ref (ad 11), .int (nI L), .int stp, .int why], aI G (ad 11) 64 (turnF false st), aI G (ad 8) 64 (turnF false st), aI G fo 240 fd] _ := hP
  have hD : va_D A [oC h ad sn hsh, oX (ad 1) 1 [.ref (ad 11), .int (nI L), .int stp, .int why], aI G (ad 11) 64 (turnF false st), aI G (ad 8) 64 (turnF false st), aI G fo 240 fd] := hD
  have h_1 : r_1 = (l_sum (dne st (turnF false st)) 64) := h_1
  rw [h_1]
  refine lv_pop hx hb dX1_act_172 rfl ?_
  refine lv_goto (tgt := 200) hx hb dX1_act_173 (by decide) ?_
  rw [hQQ]
  exact rt_v hx hb hr hlk ((())) dX1_act_200 hP hD hS (by first | exact Nat.le_of_ble_eq_true rfl | (simp only [rm_X1_act_r, rm_X2_turn]; omega) | omega) (by first | exact Nat.le_of_ble_eq_true rfl | (simp only [rm_X1_act_r, rm_X2_turn]; omega) | omega) trivial
def rm_X1_act_m : Room := ({ frames := 3, cells := 0, slots := 0, locals := 71 } : Room)
set_option maxHeartbeats 400000 in
set_option maxRecDepth 100000 in
theorem t_X1_act_m (l : Launch) (G : GG) (b0 sz : Nat) (h : Nat) (ad : Nat → Nat) (sn : Value) (hsh : Int64) (L : Nat) (stp why : Int32) (st : Nat → Int32) (rm : Nat → Int32) (fo k : Nat) (fd : Nat → Int32) (hk240 : k + 3 < 240) (hf0 : fd k = nI 109) : CT l yX1_act cX1_act 3 none (rm_X1_act_m) G b0 [.ref h, .ref fo, .int (nI k)] [oC h ad sn hsh, oX (ad 1) 1 [.ref (ad 11), .int (nI L), .int stp, .int why], aI G (ad 11) 64 st, aI G (ad 8) 64 rm, aI G fo 240 fd] sz (Rv G (fun (_ : Unit) => True) (fun (_ : Unit) => [oC h ad sn hsh, oX (ad 1) 1 [.ref (ad 11), .int (nI L), .int stp, .int why], aI G (ad 11) 64 (turnF true st), aI G (ad 8) 64 (turnF true st), aI G fo 240 fd])) := by
  refine CT.go (by decide) (Nat.le_of_ble_eq_true rfl) (fun p e s m below meth c A ls AR QQ hx hb hr hlk hml hown hnm hts hE hA hAb hsz hP hD hS hl hQQ => ?_)
  have hK := hE.1
  have hown : s.vm.findClass RX1 = some m.cls := hown
  have hl : lv_has ls 3 [(0, .ref h), (1, .ref fo), (2, .int (nI k))] := hl
  clear hsz
  refine lv_aload_n hx hb dX1_act_0 rfl (lv_at hl 1 rfl) ?_
  refine lv_iload_n hx hb dX1_act_1 rfl (lv_at hl 2 rfl) ?_
  refine N_iald hx hb dX1_act_2 hK hP 4 0 rfl rfl (by omega) (by omega) ?_
  refine top_i (y := nI 109) (hf0) ?_
  refine lv_tableIn (tgt := 176) hx hb dX1_act_3 (by decide) (by decide) (by rfl) (by decide) ?_
  refine lv_aload_n hx hb dX1_act_176 rfl (lv_at hl 0 rfl) ?_
  refine va_get (D := G.1) (ci := 0) (v := .ref (ad 1)) (C := RX1) (T := TX1) (N := 12) hx hb hts in_X1 hown hK hP 0 rfl rfl 0 (by decide) (hts _ q494) (fun _ h9 => h9) rfl dX1_act_177 ?_
  refine lv_aload_n hx hb dX1_act_180 rfl (lv_at hl 0 rfl) ?_
  refine va_get (D := G.1) (ci := 0) (v := .ref (ad 8)) (C := RX1) (T := TX1) (N := 12) hx hb hts in_X1 hown hK hP 0 rfl rfl 7 (by decide) (hts _ q501) (fun _ h9 => h9) rfl dX1_act_181 ?_
  refine lv_iconst (v := nI 1) hx hb dX1_act_184 (by decide) ?_
  refine fin_i (ws' := (fun (_ : Unit) => [oC h ad sn hsh, oX (ad 1) 1 [.ref (ad 11), .int (nI L), .int stp, .int why], aI G (ad 11) 64 (turnF true st), aI G (ad 8) 64 (turnF true st), aI G fo 240 fd])) hA hS hP hD [1, 2, 3] rfl [(false, 0), (true, 0), (true, 1), (true, 2), (false, 4)] (fun _ => rfl) (by decide) (run_V (As := [.ref (ad 8), .int (nI 1)]) (rest := []) (n9 := 2) hx hb hml hown hts hE hAb hl.1 hS hP hD [1, 2, 3] rfl (by decide) (t_X2_turn l G b0 _ (ad 1) (ad 11) st (nI L) stp why (ad 8) rm true ) (lw_V q632 q633 q634 q107 q635) 1 rfl rfl ⟨rfl, by decide, by decide, by decide +kernel⟩ ⟨Nat.le_of_ble_eq_true rfl, Nat.le_of_ble_eq_true rfl⟩ ⟨by first | exact Nat.le_of_ble_eq_true rfl | (simp only [rm_X1_act_m, rm_X2_turn]; omega), by first | exact Nat.le_of_ble_eq_true rfl | (simp only [rm_X1_act_m, rm_X2_turn]; omega)⟩ dX1_act_185 (Nat.le_of_ble_eq_true rfl) rfl rfl) (fun r_1 u_1 H locs h_1 hP hD hS => ?_)
  have hP : va_P G.1 vwCl [oC h ad sn hsh, oX (ad 1) 1 [.ref (ad 11), .int (nI L), .int stp, .int why], aI G (ad 11) 64 (turnF true st), aI G (ad 8) 64 (turnF true st), aI G fo 240 fd] _ := hP
  have hD : va_D A [oC h ad sn hsh, oX (ad 1) 1 [.ref (ad 11), .int (nI L), .int stp, .int why], aI G (ad 11) 64 (turnF true st), aI G (ad 8) 64 (turnF true st), aI G fo 240 fd] := hD
  have h_1 : r_1 = (l_sum (dne st (turnF true st)) 64) := h_1
  rw [h_1]
  refine lv_pop hx hb dX1_act_188 rfl ?_
  refine lv_goto (tgt := 200) hx hb dX1_act_189 (by decide) ?_
  rw [hQQ]
  exact rt_v hx hb hr hlk ((())) dX1_act_200 hP hD hS (by first | exact Nat.le_of_ble_eq_true rfl | (simp only [rm_X1_act_m, rm_X2_turn]; omega) | omega) (by first | exact Nat.le_of_ble_eq_true rfl | (simp only [rm_X1_act_m, rm_X2_turn]; omega) | omega) trivial
def rm_X1_act_i : Room := ({ frames := 2, cells := 0, slots := 0, locals := 46 } : Room)
set_option maxHeartbeats 400000 in
set_option maxRecDepth 100000 in
theorem t_X1_act_i (l : Launch) (G : GG) (b0 sz : Nat) (h : Nat) (ad : Nat → Nat) (sn : Value) (hsh : Int64) (L : Nat) (stp why : Int32) (st : Nat → Int32) (fo k : Nat) (fd : Nat → Int32) (hk240 : k + 3 < 240) (hf0 : fd k = nI 105) : CT l yX1_act cX1_act 3 none (rm_X1_act_i) G b0 [.ref h, .ref fo, .int (nI k)] [oC h ad sn hsh, oX (ad 1) 1 [.ref (ad 11), .int (nI L), .int stp, .int why], aI G (ad 11) 64 st, aI G fo 240 fd] sz (Rv G (fun (_ : Unit) => True) (fun (_ : Unit) => [oC h ad sn hsh, oX (ad 1) 1 [.ref (ad 11), .int (nI L), .int stp, .int why], aI G (ad 11) 64 (invF st), aI G fo 240 fd])) := by
  refine CT.go (by decide) (Nat.le_of_ble_eq_true rfl) (fun p e s m below meth c A ls AR QQ hx hb hr hlk hml hown hnm hts hE hA hAb hsz hP hD hS hl hQQ => ?_)
  have hK := hE.1
  have hown : s.vm.findClass RX1 = some m.cls := hown
  have hl : lv_has ls 3 [(0, .ref h), (1, .ref fo), (2, .int (nI k))] := hl
  clear hsz
  refine lv_aload_n hx hb dX1_act_0 rfl (lv_at hl 1 rfl) ?_
  refine lv_iload_n hx hb dX1_act_1 rfl (lv_at hl 2 rfl) ?_
  refine N_iald hx hb dX1_act_2 hK hP 3 0 rfl rfl (by omega) (by omega) ?_
  refine top_i (y := nI 105) (hf0) ?_
  refine lv_tableIn (tgt := 192) hx hb dX1_act_3 (by decide) (by decide) (by rfl) (by decide) ?_
  refine lv_aload_n hx hb dX1_act_192 rfl (lv_at hl 0 rfl) ?_
  refine va_get (D := G.1) (ci := 0) (v := .ref (ad 1)) (C := RX1) (T := TX1) (N := 12) hx hb hts in_X1 hown hK hP 0 rfl rfl 0 (by decide) (hts _ q494) (fun _ h9 => h9) rfl dX1_act_193 ?_
  refine fin_i (ws' := (fun (_ : Unit) => [oC h ad sn hsh, oX (ad 1) 1 [.ref (ad 11), .int (nI L), .int stp, .int why], aI G (ad 11) 64 (invF st), aI G fo 240 fd])) hA hS hP hD [1, 2] rfl [(false, 0), (true, 0), (true, 1), (false, 3)] (fun _ => rfl) (by decide) (run_V (As := []) (rest := []) (n9 := 0) hx hb hml hown hts hE hAb hl.1 hS hP hD [1, 2] rfl (by decide) (t_X2_invert l G b0 _ (ad 1) (ad 11) st (nI L) stp why ) (lw_V q652 q653 q654 q107 q655) 1 rfl rfl ⟨rfl, by decide, by decide, by decide +kernel⟩ ⟨Nat.le_of_ble_eq_true rfl, Nat.le_of_ble_eq_true rfl⟩ ⟨by first | exact Nat.le_of_ble_eq_true rfl | (simp only [rm_X1_act_i, rm_X2_invert]; omega), by first | exact Nat.le_of_ble_eq_true rfl | (simp only [rm_X1_act_i, rm_X2_invert]; omega)⟩ dX1_act_196 (Nat.le_of_ble_eq_true rfl) rfl rfl) (fun r_1 u_1 H locs h_1 hP hD hS => ?_)
  have hP : va_P G.1 vwCl [oC h ad sn hsh, oX (ad 1) 1 [.ref (ad 11), .int (nI L), .int stp, .int why], aI G (ad 11) 64 (invF st), aI G fo 240 fd] _ := hP
  have hD : va_D A [oC h ad sn hsh, oX (ad 1) 1 [.ref (ad 11), .int (nI L), .int stp, .int why], aI G (ad 11) 64 (invF st), aI G fo 240 fd] := hD
  have h_1 : r_1 = (l_sum (invF st) 64) := h_1
  rw [h_1]
  refine lv_pop hx hb dX1_act_199 rfl ?_
  rw [hQQ]
  exact rt_v hx hb hr hlk ((())) dX1_act_200 hP hD hS (by first | exact Nat.le_of_ble_eq_true rfl | (simp only [rm_X1_act_i, rm_X2_invert]; omega) | omega) (by first | exact Nat.le_of_ble_eq_true rfl | (simp only [rm_X1_act_i, rm_X2_invert]; omega) | omega) trivial
def rm_X1_undo_t : Room := rm_X1_undo_w
theorem t_X1_undo_t (l : Launch) (G : GG) (b0 sz : Nat) (h : Nat) (ad : Nat → Nat) (sn : Value) (hsh : Int64) (L : Nat) (stp why : Int32) (st : Nat → Int32) (x : svR) (xs : List svR) (T : va_W) (hSV : SV G (ad 9) (x :: xs) T) : CT l yX1_undo cX1_undo 1 (some FieldType.int) rm_X1_undo_t G b0 [.ref h] ([oC h ad sn hsh, oX (ad 1) 1 [.ref (ad 11), .int (nI L), .int stp, .int why], aI G (ad 11) 64 st] ++ T) sz (Ri G (fun (r_ : Int32) (u : va_W) => r_ = nI xs.length ∧ SV G (ad 9) xs u) (fun (u : va_W) => ([oC h ad sn hsh, oX (ad 1) 1 [.ref (ad 11), .int (nI x.2.2.2.1), .int x.2.2.2.2.1, .int x.2.2.2.2.2], aI G (ad 11) 64 x.2.2.1] ++ u))) := by
  rcases hSV with ⟨h0, _⟩ | ⟨mc, ea, ef, rfl, h1, h2, h3⟩
  · cases h0
  · obtain ⟨e0, e1, e2⟩ := sv_u h1 h2
    obtain ⟨q, qa, qf, qL, qs, qw⟩ := x
    have h3 : xs.length + 1 ≤ 6 := h3
    refine CT.imp_i (t_X1_undo_w l G b0 sz h ad sn hsh L stp why st mc ea (xs.length + 1) ef q qa qL qs qw qf (svW G xs) (by omega) h3 e0) (fun r u hr => ⟨oX (ad 9) 11 [.int (mc + nI 1), .ref ea, .int (nI (xs.length + 1 - 1))] :: aO G ea 10 (va_up ef (xs.length + 1 - 1) none) :: svW G xs, ⟨?_, Or.inr ⟨mc + nI 1, ea, va_up ef (xs.length + 1 - 1) none, ?_, e1, e2, by omega⟩⟩, rfl⟩)
    · rw [hr, show xs.length + 1 - 1 = xs.length by omega]
    · rw [show xs.length + 1 - 1 = xs.length by omega]
