/-! ===== the saved sheets ===== -/
/-- a saved sheet: its addresses, shades, levels, stop, why -/
abbrev svR : Type := Nat × Nat × (Nat → Int32) × Nat × Int32 × Int32
abbrev shE (x : svR) : Nat × va_E := oX x.1 1 [.ref x.2.1, .int (nI x.2.2.2.1), .int x.2.2.2.2.1, .int x.2.2.2.2.2]
abbrev shA (G : GG) (x : svR) : Nat × va_E := aI G x.2.1 64 x.2.2.1
/-- their cells, the newest first -/
def svW (G : GG) : List svR → va_W
  | [] => []
  | x :: xs => shE x :: shA G x :: svW G xs
theorem svW_app {G : GG} {xs ys : List svR} : svW G (xs ++ ys) = svW G xs ++ svW G ys := by
  induction xs with
  | nil => rfl
  | cons x xs ih =>
    show shE x :: shA G x :: svW G (xs ++ ys) = _
    rw [ih]
    rfl
/-- the list and its sheets: what stands behind the component's own cells -/
def SV (G : GG) (h9 : Nat) (xs : List svR) (T : va_W) : Prop :=
  (xs = [] ∧ ∃ mc : Int32, T = [oX h9 11 [.int mc, .ref (G.2.2.1 1), .int (nI 0)]]) ∨
  (∃ (mc : Int32) (ea : Nat) (ef : Nat → Option Nat), T = oX h9 11 [.int mc, .ref ea, .int (nI xs.length)] :: aO G ea 10 ef :: svW G xs ∧ (∀ j x, xs[j]? = some x → ef (xs.length - 1 - j) = some x.1) ∧ (∀ j, xs.length ≤ j → ef j = none) ∧ xs.length ≤ 6)
def svP (xs : List svR) (x : svR) : List svR := x :: (if xs.length = 6 then xs.dropLast else xs)
theorem svW_at {G : GG} {xs : List svR} {j : Nat} {x : svR} (h : xs[j]? = some x) : (svW G xs)[2 * j]? = some (shE x) := by
  induction xs generalizing j with
  | nil => simp at h
  | cons y xs ih =>
    cases j with
    | zero =>
      cases h
      rfl
    | succ j =>
      show (shE y :: shA G y :: svW G xs)[2 * (j + 1)]? = _
      rw [show 2 * (j + 1) = 2 * j + 1 + 1 by omega, List.getElem?_cons_succ, List.getElem?_cons_succ]
      exact ih h
theorem sv_HT {G : GG} {xs : List svR} {ef : Nat → Option Nat} (h1 : ∀ j x, xs[j]? = some x → ef (xs.length - 1 - j) = some x.1) (h2 : ∀ j, xs.length ≤ j → ef j = none) : ∀ i y, ef i = some y → ∃ (j : Nat) (vs : List Value), (svW G xs)[j]? = some (y, .inr (1, vs)) := by
  intro i y hy
  by_cases c : i < xs.length
  · have e : xs[xs.length - 1 - i]? = some xs[xs.length - 1 - i] := List.getElem?_eq_getElem (by omega)
    have h := h1 _ _ e
    rw [show xs.length - 1 - (xs.length - 1 - i) = i by omega, hy] at h
    have h := Option.some.inj h
    exact ⟨2 * (xs.length - 1 - i), _, by rw [svW_at e, h]⟩
  · rw [h2 i (by omega)] at hy
    cases hy
theorem sv_0 {xs : List svR} {ef : Nat → Option Nat} {x : svR} (h1 : ∀ j y, xs[j]? = some y → ef (xs.length - 1 - j) = some y.1) (h2 : ∀ j, xs.length ≤ j → ef j = none) : (∀ j y, (x :: xs)[j]? = some y → va_up ef xs.length (some x.1) ((x :: xs).length - 1 - j) = some y.1) ∧ (∀ j, (x :: xs).length ≤ j → va_up ef xs.length (some x.1) j = none) := by
  refine ⟨fun j y h => ?_, fun j h => ?_⟩
  · cases j with
    | zero =>
      cases h
      show va_up _ _ _ (xs.length + 1 - 1 - 0) = _
      rw [show xs.length + 1 - 1 - 0 = xs.length by omega, va_up_self]
    | succ j =>
      have hj : xs[j]? = some y := h
      have hl := (List.getElem?_eq_some_iff.mp hj).1
      show va_up _ _ _ (xs.length + 1 - 1 - (j + 1)) = _
      rw [show xs.length + 1 - 1 - (j + 1) = xs.length - 1 - j by omega, va_up_ne _ _ (by omega)]
      exact h1 j y hj
  · have h : xs.length + 1 ≤ j := h
    rw [va_up_ne _ _ (by omega)]
    exact h2 j (by omega)
theorem sv_1 {ys : List svR} {o : svR} {ef : Nat → Option Nat} {x : svR} (hl : ys.length = 5) (h1 : ∀ j y, (ys ++ [o])[j]? = some y → ef ((ys ++ [o]).length - 1 - j) = some y.1) (h2 : ∀ j, (ys ++ [o]).length ≤ j → ef j = none) : (∀ j y, (x :: ys)[j]? = some y → va_up (va_up (va_cpy ef ef 1 0 (6 - 1 - 0)) (6 - 1) none) 5 (some x.1) ((x :: ys).length - 1 - j) = some y.1) ∧ (∀ j, (x :: ys).length ≤ j → va_up (va_up (va_cpy ef ef 1 0 (6 - 1 - 0)) (6 - 1) none) 5 (some x.1) j = none) := by
  have hl6 : (ys ++ [o]).length = 6 := by rw [List.length_append, hl]; rfl
  rw [hl6] at h1 h2
  refine ⟨fun j y h => ?_, fun j h => ?_⟩
  · cases j with
    | zero =>
      cases h
      show va_up _ _ _ (ys.length + 1 - 1 - 0) = _
      rw [hl]
      exact va_up_self _ _ _
    | succ j =>
      have hj : ys[j]? = some y := h
      have hlj := (List.getElem?_eq_some_iff.mp hj).1
      have h9 := h1 j y (by rw [List.getElem?_append_left hlj]; exact hj)
      show va_up _ _ _ (ys.length + 1 - 1 - (j + 1)) = _
      rw [hl, va_up_ne _ _ (by omega), va_up_ne _ _ (by omega)]
      unfold va_cpy
      rw [if_pos (by omega)]
      rw [← h9]
      congr 1
      omega
  · have h : ys.length + 1 ≤ j := h
    rw [hl] at h
    rw [va_up_ne _ _ (by omega), va_up_ne _ _ (by omega)]
    unfold va_cpy
    rw [if_neg (by omega)]
    exact h2 j (by omega)
theorem CT.imp_v {l : Launch} {y : MethodName} {cc : ByteArray} {mL : Nat} {rt : Option FieldType} {rm : Room} {G : GG} {b0 : Nat} {av : List Value} {w : va_W} {sz : Nat} {S S' : Type} {P : S → Prop} {P' : S' → Prop} {wp : S → va_W} {wp' : S' → va_W} (h : CT l y cc mL rt rm G b0 av w sz (Rv G P wp)) (hw : ∀ u, P u → ∃ u', P' u' ∧ wp' u' = wp u) : CT l y cc mL rt rm G b0 av w sz (Rv G P' wp') := by
  intro p e ha hc hk s m args below hf happ hP hK
  obtain ⟨n, o, g1, g2, g3, hq⟩ := h p e ha hc hk s m args below hf happ hP hK
  refine ⟨n, o, g1, g2, g3, ?_⟩
  obtain ⟨⟨⟨u, h1, h2, h3⟩, h4⟩, h5⟩ := hq
  obtain ⟨u', e1, e2⟩ := hw u h2
  refine ⟨⟨⟨u', h1, e1, ?_⟩, h4⟩, h5⟩
  show Po G (wp' u') _ _
  rw [e2]
  exact h3
def rm_X1_save_v : Room := ({ frames := 6, cells := 4, slots := 80, locals := 200 } : Room)
set_option maxHeartbeats 400000 in
set_option maxRecDepth 100000 in
theorem t_X1_save_v (l : Launch) (G : GG) (b0 sz : Nat) (h : Nat) (ad : Nat → Nat) (sn : Value) (hsh : Int64) (L : Nat) (stp why : Int32) (st : Nat → Int32) (mc : Int32) (tl : va_W) : CT l yX1_save cX1_save 2 none (rm_X1_save_v) G b0 [.ref h] ([oC h ad sn hsh, oX (ad 1) 1 [.ref (ad 11), .int (nI L), .int stp, .int why], aI G (ad 11) 64 st, oX (ad 9) 11 [.int mc, .ref (G.2.2.1 1), .int (nI 0)]] ++ tl) sz (Rv G (fun (u : Nat × Nat × Nat) => True) (fun (u : Nat × Nat × Nat) => ([oC h ad sn hsh, oX (ad 1) 1 [.ref (ad 11), .int (nI L), .int stp, .int why], aI G (ad 11) 64 st, oX (ad 9) 11 [.int (mc + nI 1), .ref u.1, .int (nI 1)], aO G u.1 10 (va_up (fun _ => none) 0 (some u.2.1)), oX u.2.1 1 [.ref u.2.2, .int (nI L), .int stp, .int why], aI G u.2.2 64 st] ++ tl))) := by
  refine CT.go (by decide) (Nat.le_of_ble_eq_true rfl) (fun p e s m below meth c A ls AR QQ hx hb hr hlk hml hown hnm hts hE hA hAb hsz hP hD hS hl hQQ => ?_)
  have hK := hE.1
  have hown : s.vm.findClass RX1 = some m.cls := hown
  have hl : lv_has ls 2 [(0, .ref h)] := hl
  clear hsz
  refine lv_aload_n hx hb dX1_save_0 rfl (lv_at hl 0 rfl) ?_
  refine va_get (D := G.1) (ci := 0) (v := .ref (ad 9)) (C := RX1) (T := TX1) (N := 12) hx hb hts in_X1 hown hK hP 0 rfl rfl 8 (by decide) (hts _ q502) (fun _ h9 => h9) rfl dX1_save_1 ?_
  have hF_1 := fr_free (wc := [oX (ad 9) 11 [.int mc, .ref (G.2.2.1 1), .int (nI 0)]]) [3] rfl hA hS hD
  refine fin_iF (ws' := (fun (_ : Unit) => ([oC h ad sn hsh, oX (ad 1) 1 [.ref (ad 11), .int (nI L), .int stp, .int why], aI G (ad 11) 64 st, oX (ad 9) 11 [.int mc, .ref (G.2.2.1 1), .int (nI 0)]] ++ tl))) hS hF_1 (run_V (As := []) (rest := []) (n9 := 0) hx hb hml hown hts hE hAb hl.1 hS hP hD [3] rfl (by decide) (t_J9_size l G b0 _ (ad 9) (G.2.2.1 1) 0 mc ) (lw_V q540 q541 q542 q124 q543) 3 rfl rfl ⟨rfl, by decide, by decide, by decide +kernel⟩ ⟨Nat.le_of_ble_eq_true rfl, Nat.le_of_ble_eq_true rfl⟩ ⟨by first | exact Nat.le_of_ble_eq_true rfl | (simp only [rm_X1_save_v, rm_J9_size]; omega), by first | exact Nat.le_of_ble_eq_true rfl | (simp only [rm_X1_save_v, rm_J9_size]; omega)⟩ dX1_save_4 (Nat.le_of_ble_eq_true rfl) rfl rfl) (fun _ H1_ hk_ hp_ hd_ => fr_selT (ws := [oC h ad sn hsh, oX (ad 1) 1 [.ref (ad 11), .int (nI L), .int stp, .int why], aI G (ad 11) 64 st, oX (ad 9) 11 [.int mc, .ref (G.2.2.1 1), .int (nI 0)]]) (wc := [oX (ad 9) 11 [.int mc, .ref (G.2.2.1 1), .int (nI 0)]]) (ws' := [oC h ad sn hsh, oX (ad 1) 1 [.ref (ad 11), .int (nI L), .int stp, .int why], aI G (ad 11) 64 st, oX (ad 9) 11 [.int mc, .ref (G.2.2.1 1), .int (nI 0)]]) (tl := tl) [3] [(false, 0), (false, 1), (false, 2), (true, 0)] rfl rfl (by decide) hP hD hk_ hF_1 hp_ hd_) (fun r_1 u_1 H locs h_1 hP hD hS => ?_)
  have hP : va_P G.1 vwCl ([oC h ad sn hsh, oX (ad 1) 1 [.ref (ad 11), .int (nI L), .int stp, .int why], aI G (ad 11) 64 st, oX (ad 9) 11 [.int mc, .ref (G.2.2.1 1), .int (nI 0)]] ++ tl) _ := hP
  have hD : va_D A ([oC h ad sn hsh, oX (ad 1) 1 [.ref (ad 11), .int (nI L), .int stp, .int why], aI G (ad 11) 64 st, oX (ad 9) 11 [.int mc, .ref (G.2.2.1 1), .int (nI 0)]] ++ tl) := hD
  have h_1 : r_1 = (nI 0) := h_1
  rw [h_1]
  refine lv_bipush (v := nI 6) hx hb dX1_save_7 (by decide) ?_
  refine N_icmp_ne (tgt := 26) hx hb dX1_save_9 (by decide) (by omega) (by omega) (fun c_9 => ?_) (fun c_9 => ?_)
  · skip
    refine va_new (ci := 1) (fs := [.null, .int (nI 0), .int (nI 0), .int (nI 0)]) (C := RX2) (T := TX2) (N := 4) hx hb hts in_X2 tyX2 tyX2_ok hown (hts _ q152) (hts _ q153) (hts _ q107) hK hP hD hS hA rfl (fun j hj => by rcases (show j = 0 ∨ j = 1 ∨ j = 2 ∨ j = 3 by omega) with rfl | rfl | rfl | rfl <;> rfl) (by first | exact Nat.le_of_ble_eq_true rfl | omega) (by first | exact Nat.le_of_ble_eq_true rfl | omega) dX1_save_26 (fun q2 H hP hD hS => ?_)
    have hP := hP.swap
    have hD := hD.swap
    have hP : va_P G.1 vwCl ([oC h ad sn hsh, oX (ad 1) 1 [.ref (ad 11), .int (nI L), .int stp, .int why], aI G (ad 11) 64 st, oX (ad 9) 11 [.int mc, .ref (G.2.2.1 1), .int (nI 0)], oX q2 1 [.null, .int (nI 0), .int (nI 0), .int (nI 0)]] ++ tl) _ := hP
    have hD : va_D A ([oC h ad sn hsh, oX (ad 1) 1 [.ref (ad 11), .int (nI L), .int stp, .int why], aI G (ad 11) 64 st, oX (ad 9) 11 [.int mc, .ref (G.2.2.1 1), .int (nI 0)], oX q2 1 [.null, .int (nI 0), .int (nI 0), .int (nI 0)]] ++ tl) := hD
    refine lv_dup hx hb dX1_save_29 rfl ?_
    have hF_3 := fr_free (wc := [oX q2 1 [.null, .int (nI 0), .int (nI 0), .int (nI 0)]]) [4] rfl hA hS hD
    refine fin_vF (ws' := (fun (u_3 : Nat) => ([oC h ad sn hsh, oX (ad 1) 1 [.ref (ad 11), .int (nI L), .int stp, .int why], aI G (ad 11) 64 st, oX (ad 9) 11 [.int mc, .ref (G.2.2.1 1), .int (nI 0)], oX q2 1 [.ref u_3, .int (nI 3), .int ((-1)), .int (nI 0)], aI G u_3 64 (fun _ => 0)] ++ tl))) hS hF_3 (run_IN (As := []) (rest := [.ref q2]) (n9 := 0) (host := "CrumbPictures") hx hb hml hown hts hE hAb hl.1 hS hP hD [4] rfl (by decide) (t_X2_init l G b0 _ q2 ) (lw_meth q156) q154 q107 q155 rfl ⟨by decide, by decide, by decide +kernel⟩ ⟨Nat.le_of_ble_eq_true rfl, Nat.le_of_ble_eq_true rfl⟩ ⟨by first | exact Nat.le_of_ble_eq_true rfl | (simp only [rm_X1_save_v, rm_X2_init, rm_J9_size]; omega), by first | exact Nat.le_of_ble_eq_true rfl | (simp only [rm_X1_save_v, rm_X2_init, rm_J9_size]; omega)⟩ dX1_save_30 (Nat.le_of_ble_eq_true rfl) rfl rfl) (fun u_3 H1_ hk_ hp_ hd_ => fr_selT (ws := [oC h ad sn hsh, oX (ad 1) 1 [.ref (ad 11), .int (nI L), .int stp, .int why], aI G (ad 11) 64 st, oX (ad 9) 11 [.int mc, .ref (G.2.2.1 1), .int (nI 0)], oX q2 1 [.null, .int (nI 0), .int (nI 0), .int (nI 0)]]) (wc := [oX q2 1 [.null, .int (nI 0), .int (nI 0), .int (nI 0)]]) (ws' := [oC h ad sn hsh, oX (ad 1) 1 [.ref (ad 11), .int (nI L), .int stp, .int why], aI G (ad 11) 64 st, oX (ad 9) 11 [.int mc, .ref (G.2.2.1 1), .int (nI 0)], oX q2 1 [.ref u_3, .int (nI 3), .int ((-1)), .int (nI 0)], aI G u_3 64 (fun _ => 0)]) (tl := tl) [4] [(false, 0), (false, 1), (false, 2), (false, 3), (true, 0), (true, 1)] rfl rfl (by decide) hP hD hk_ hF_3 hp_ hd_) (fun u_3 H locs h_3 hP hD hS => ?_)
    have hP : va_P G.1 vwCl ([oC h ad sn hsh, oX (ad 1) 1 [.ref (ad 11), .int (nI L), .int stp, .int why], aI G (ad 11) 64 st, oX (ad 9) 11 [.int mc, .ref (G.2.2.1 1), .int (nI 0)], oX q2 1 [.ref u_3, .int (nI 3), .int ((-1)), .int (nI 0)], aI G u_3 64 (fun _ => 0)] ++ tl) _ := hP
    have hD : va_D A ([oC h ad sn hsh, oX (ad 1) 1 [.ref (ad 11), .int (nI L), .int stp, .int why], aI G (ad 11) 64 st, oX (ad 9) 11 [.int mc, .ref (G.2.2.1 1), .int (nI 0)], oX q2 1 [.ref u_3, .int (nI 3), .int ((-1)), .int (nI 0)], aI G u_3 64 (fun _ => 0)] ++ tl) := hD
    refine lv_astore_n (lv' := [(1, .ref q2), (0, .ref h)]) hx hb dX1_save_33 rfl hl (by decide) rfl (fun ls hl => ?_)
    refine lv_aload_n hx hb dX1_save_34 rfl (lv_at hl 1 rfl) ?_
    refine va_get (D := G.1) (ci := 0) (v := .ref (ad 9)) (C := RX1) (T := TX1) (N := 12) hx hb hts in_X1 hown hK hP 0 rfl rfl 8 (by decide) (hts _ q502) (fun _ h9 => h9) rfl dX1_save_35 ?_
    refine lv_aload_n hx hb dX1_save_38 rfl (lv_at hl 0 rfl) ?_
    refine lv_aload_n hx hb dX1_save_39 rfl (lv_at hl 1 rfl) ?_
    refine va_get (D := G.1) (ci := 0) (v := .ref (ad 1)) (C := RX1) (T := TX1) (N := 12) hx hb hts in_X1 hown hK hP 0 rfl rfl 0 (by decide) (hts _ q494) (fun _ h9 => h9) rfl dX1_save_40 ?_
    have hF_4 := fr_free (wc := [oX q2 1 [.ref u_3, .int (nI 3), .int ((-1)), .int (nI 0)], aI G u_3 64 (fun _ => 0), oX (ad 1) 1 [.ref (ad 11), .int (nI L), .int stp, .int why], aI G (ad 11) 64 st]) [4, 5, 1, 2] rfl hA hS hD
    refine fin_rF (ws' := (fun (_ : Unit) => ([oC h ad sn hsh, oX (ad 1) 1 [.ref (ad 11), .int (nI L), .int stp, .int why], aI G (ad 11) 64 st, oX (ad 9) 11 [.int mc, .ref (G.2.2.1 1), .int (nI 0)], oX q2 1 [.ref u_3, .int (nI L), .int stp, .int why], aI G u_3 64 st] ++ tl))) hS hF_4 (run_V (As := [.ref (ad 1)]) (rest := [.ref (ad 9)]) (n9 := 1) hx hb hml hown hts hE hAb hl.1 hS hP hD [4, 5, 1, 2] rfl (by decide) (t_X2_become l G b0 _ q2 u_3 (fun _ => 0) (nI 3) ((-1)) (nI 0) (ad 1) (ad 11) st (nI L) stp why ) (lw_V q561 q562 q563 q107 q564) 4 rfl rfl ⟨rfl, by decide, by decide, by decide +kernel⟩ ⟨Nat.le_of_ble_eq_true rfl, Nat.le_of_ble_eq_true rfl⟩ ⟨by first | exact Nat.le_of_ble_eq_true rfl | (simp only [rm_X1_save_v, rm_X2_become, rm_J9_size, rm_X2_init]; omega), by first | exact Nat.le_of_ble_eq_true rfl | (simp only [rm_X1_save_v, rm_X2_become, rm_J9_size, rm_X2_init]; omega)⟩ dX1_save_43 (Nat.le_of_ble_eq_true rfl) rfl rfl) (fun _ H1_ hk_ hp_ hd_ => fr_selT (ws := [oC h ad sn hsh, oX (ad 1) 1 [.ref (ad 11), .int (nI L), .int stp, .int why], aI G (ad 11) 64 st, oX (ad 9) 11 [.int mc, .ref (G.2.2.1 1), .int (nI 0)], oX q2 1 [.ref u_3, .int (nI 3), .int ((-1)), .int (nI 0)], aI G u_3 64 (fun _ => 0)]) (wc := [oX q2 1 [.ref u_3, .int (nI 3), .int ((-1)), .int (nI 0)], aI G u_3 64 (fun _ => 0), oX (ad 1) 1 [.ref (ad 11), .int (nI L), .int stp, .int why], aI G (ad 11) 64 st]) (ws' := [oC h ad sn hsh, oX (ad 1) 1 [.ref (ad 11), .int (nI L), .int stp, .int why], aI G (ad 11) 64 st, oX (ad 9) 11 [.int mc, .ref (G.2.2.1 1), .int (nI 0)], oX q2 1 [.ref u_3, .int (nI L), .int stp, .int why], aI G u_3 64 st]) (tl := tl) [4, 5, 1, 2] [(false, 0), (true, 2), (true, 3), (false, 3), (true, 0), (true, 1)] rfl rfl (by decide) hP hD hk_ hF_4 hp_ hd_) (fun u_4 H locs h_4 hP hD hS => ?_)
    have hP : va_P G.1 vwCl ([oC h ad sn hsh, oX (ad 1) 1 [.ref (ad 11), .int (nI L), .int stp, .int why], aI G (ad 11) 64 st, oX (ad 9) 11 [.int mc, .ref (G.2.2.1 1), .int (nI 0)], oX q2 1 [.ref u_3, .int (nI L), .int stp, .int why], aI G u_3 64 st] ++ tl) _ := hP
    have hD : va_D A ([oC h ad sn hsh, oX (ad 1) 1 [.ref (ad 11), .int (nI L), .int stp, .int why], aI G (ad 11) 64 st, oX (ad 9) 11 [.int mc, .ref (G.2.2.1 1), .int (nI 0)], oX q2 1 [.ref u_3, .int (nI L), .int stp, .int why], aI G u_3 64 st] ++ tl) := hD
    refine W.eq (g2 := F0 m 46 ls [.ref q2, .ref (ad 9)]) rfl ?_
    have hF_5 := fr_free (wc := [oX (ad 9) 11 [.int mc, .ref (G.2.2.1 1), .int (nI 0)], oX q2 1 [.ref u_3, .int (nI L), .int stp, .int why]]) [3, 4] rfl hA hS hD
    refine fin_iF (ws' := (fun (u_5 : Nat) => ([oC h ad sn hsh, oX (ad 1) 1 [.ref (ad 11), .int (nI L), .int stp, .int why], aI G (ad 11) 64 st, oX (ad 9) 11 [.int (mc + nI 1), .ref u_5, .int (nI 1)], oX q2 1 [.ref u_3, .int (nI L), .int stp, .int why], aI G u_3 64 st, aO G u_5 10 (va_up (fun _ => none) 0 (some q2))] ++ tl))) hS hF_5 (run_V (As := [.ref q2]) (rest := []) (n9 := 1) hx hb hml hown hts hE hAb hl.1 hS hP hD [3, 4] rfl (by decide) (t_J9_add_v l G b0 _ (ad 9) mc q2 u_3 L stp why ) (lw_V q566 q567 q568 q124 q569) 3 rfl rfl ⟨rfl, by decide, by decide, by decide +kernel⟩ ⟨Nat.le_of_ble_eq_true rfl, Nat.le_of_ble_eq_true rfl⟩ ⟨by first | exact Nat.le_of_ble_eq_true rfl | (simp only [rm_X1_save_v, rm_J9_add_v, rm_J9_size, rm_X2_init, rm_X2_become]; omega), by first | exact Nat.le_of_ble_eq_true rfl | (simp only [rm_X1_save_v, rm_J9_add_v, rm_J9_size, rm_X2_init, rm_X2_become]; omega)⟩ dX1_save_46 (Nat.le_of_ble_eq_true rfl) rfl rfl) (fun u_5 H1_ hk_ hp_ hd_ => fr_selT (ws := [oC h ad sn hsh, oX (ad 1) 1 [.ref (ad 11), .int (nI L), .int stp, .int why], aI G (ad 11) 64 st, oX (ad 9) 11 [.int mc, .ref (G.2.2.1 1), .int (nI 0)], oX q2 1 [.ref u_3, .int (nI L), .int stp, .int why], aI G u_3 64 st]) (wc := [oX (ad 9) 11 [.int mc, .ref (G.2.2.1 1), .int (nI 0)], oX q2 1 [.ref u_3, .int (nI L), .int stp, .int why]]) (ws' := [oC h ad sn hsh, oX (ad 1) 1 [.ref (ad 11), .int (nI L), .int stp, .int why], aI G (ad 11) 64 st, oX (ad 9) 11 [.int (mc + nI 1), .ref u_5, .int (nI 1)], oX q2 1 [.ref u_3, .int (nI L), .int stp, .int why], aI G u_3 64 st, aO G u_5 10 (va_up (fun _ => none) 0 (some q2))]) (tl := tl) [3, 4] [(false, 0), (false, 1), (false, 2), (true, 0), (true, 1), (false, 5), (true, 2)] rfl rfl (by decide) hP hD hk_ hF_5 hp_ hd_) (fun r_5 u_5 H locs h_5 hP hD hS => ?_)
    have hP : va_P G.1 vwCl ([oC h ad sn hsh, oX (ad 1) 1 [.ref (ad 11), .int (nI L), .int stp, .int why], aI G (ad 11) 64 st, oX (ad 9) 11 [.int (mc + nI 1), .ref u_5, .int (nI 1)], oX q2 1 [.ref u_3, .int (nI L), .int stp, .int why], aI G u_3 64 st, aO G u_5 10 (va_up (fun _ => none) 0 (some q2))] ++ tl) _ := hP
    have hD : va_D A ([oC h ad sn hsh, oX (ad 1) 1 [.ref (ad 11), .int (nI L), .int stp, .int why], aI G (ad 11) 64 st, oX (ad 9) 11 [.int (mc + nI 1), .ref u_5, .int (nI 1)], oX q2 1 [.ref u_3, .int (nI L), .int stp, .int why], aI G u_3 64 st, aO G u_5 10 (va_up (fun _ => none) 0 (some q2))] ++ tl) := hD
    have h_5 : r_5 = (bI true) := h_5
    rw [h_5]
    refine lv_pop hx hb dX1_save_49 rfl ?_
    have hP : va_P G.1 vwCl ([oC h ad sn hsh, oX (ad 1) 1 [.ref (ad 11), .int (nI L), .int stp, .int why], aI G (ad 11) 64 st, oX (ad 9) 11 [.int (mc + nI 1), .ref u_5, .int (nI 1)], aO G u_5 10 (va_up (fun _ => none) 0 (some q2)), oX q2 1 [.ref u_3, .int (nI L), .int stp, .int why], aI G u_3 64 st] ++ tl) _ := va_P.part hP [0, 1, 2, 3, 6, 4, 5] rfl
    have hD : va_D A ([oC h ad sn hsh, oX (ad 1) 1 [.ref (ad 11), .int (nI L), .int stp, .int why], aI G (ad 11) 64 st, oX (ad 9) 11 [.int (mc + nI 1), .ref u_5, .int (nI 1)], aO G u_5 10 (va_up (fun _ => none) 0 (some q2)), oX q2 1 [.ref u_3, .int (nI L), .int stp, .int why], aI G u_3 64 st] ++ tl) := va_D.part hD [0, 1, 2, 3, 6, 4, 5] (by decide) rfl
    rw [hQQ]
    exact rt_v hx hb hr hlk (((u_5, q2, u_3))) dX1_save_50 hP hD hS (by first | exact Nat.le_of_ble_eq_true rfl | (simp only [rm_X1_save_v, rm_J9_size, rm_X2_init, rm_X2_become, rm_J9_add_v]; omega) | omega) (by first | exact Nat.le_of_ble_eq_true rfl | (simp only [rm_X1_save_v, rm_J9_size, rm_X2_init, rm_X2_become, rm_J9_add_v]; omega) | omega) trivial
  · skip
    exfalso; omega
def rm_X1_save_0 : Room := ({ frames := 6, cells := 4, slots := 80, locals := 200 } : Room)
set_option maxHeartbeats 400000 in
set_option maxRecDepth 100000 in
theorem t_X1_save_0 (l : Launch) (G : GG) (b0 sz : Nat) (h : Nat) (ad : Nat → Nat) (sn : Value) (hsh : Int64) (L : Nat) (stp why : Int32) (st : Nat → Int32) (mc : Int32) (ea k : Nat) (ef : Nat → Option Nat) (tl : va_W) (hk : k < 6) : CT l yX1_save cX1_save 2 none (rm_X1_save_0) G b0 [.ref h] ([oC h ad sn hsh, oX (ad 1) 1 [.ref (ad 11), .int (nI L), .int stp, .int why], aI G (ad 11) 64 st, oX (ad 9) 11 [.int mc, .ref ea, .int (nI k)], aO G ea 10 ef] ++ tl) sz (Rv G (fun (u : Nat × Nat) => True) (fun (u : Nat × Nat) => ([oC h ad sn hsh, oX (ad 1) 1 [.ref (ad 11), .int (nI L), .int stp, .int why], aI G (ad 11) 64 st, oX (ad 9) 11 [.int (mc + nI 1), .ref ea, .int (nI (k + 1))], aO G ea 10 (va_up ef k (some u.1)), oX u.1 1 [.ref u.2, .int (nI L), .int stp, .int why], aI G u.2 64 st] ++ tl))) := by
  refine CT.go (by decide) (Nat.le_of_ble_eq_true rfl) (fun p e s m below meth c A ls AR QQ hx hb hr hlk hml hown hnm hts hE hA hAb hsz hP hD hS hl hQQ => ?_)
  have hK := hE.1
  have hown : s.vm.findClass RX1 = some m.cls := hown
  have hl : lv_has ls 2 [(0, .ref h)] := hl
  clear hsz
  refine lv_aload_n hx hb dX1_save_0 rfl (lv_at hl 0 rfl) ?_
  refine va_get (D := G.1) (ci := 0) (v := .ref (ad 9)) (C := RX1) (T := TX1) (N := 12) hx hb hts in_X1 hown hK hP 0 rfl rfl 8 (by decide) (hts _ q502) (fun _ h9 => h9) rfl dX1_save_1 ?_
  have hF_1 := fr_free (wc := [oX (ad 9) 11 [.int mc, .ref ea, .int (nI k)]]) [3] rfl hA hS hD
  refine fin_iF (ws' := (fun (_ : Unit) => ([oC h ad sn hsh, oX (ad 1) 1 [.ref (ad 11), .int (nI L), .int stp, .int why], aI G (ad 11) 64 st, oX (ad 9) 11 [.int mc, .ref ea, .int (nI k)], aO G ea 10 ef] ++ tl))) hS hF_1 (run_V (As := []) (rest := []) (n9 := 0) hx hb hml hown hts hE hAb hl.1 hS hP hD [3] rfl (by decide) (t_J9_size l G b0 _ (ad 9) ea k mc ) (lw_V q540 q541 q542 q124 q543) 3 rfl rfl ⟨rfl, by decide, by decide, by decide +kernel⟩ ⟨Nat.le_of_ble_eq_true rfl, Nat.le_of_ble_eq_true rfl⟩ ⟨by first | exact Nat.le_of_ble_eq_true rfl | (simp only [rm_X1_save_0, rm_J9_size]; omega), by first | exact Nat.le_of_ble_eq_true rfl | (simp only [rm_X1_save_0, rm_J9_size]; omega)⟩ dX1_save_4 (Nat.le_of_ble_eq_true rfl) rfl rfl) (fun _ H1_ hk_ hp_ hd_ => fr_selT (ws := [oC h ad sn hsh, oX (ad 1) 1 [.ref (ad 11), .int (nI L), .int stp, .int why], aI G (ad 11) 64 st, oX (ad 9) 11 [.int mc, .ref ea, .int (nI k)], aO G ea 10 ef]) (wc := [oX (ad 9) 11 [.int mc, .ref ea, .int (nI k)]]) (ws' := [oC h ad sn hsh, oX (ad 1) 1 [.ref (ad 11), .int (nI L), .int stp, .int why], aI G (ad 11) 64 st, oX (ad 9) 11 [.int mc, .ref ea, .int (nI k)], aO G ea 10 ef]) (tl := tl) [3] [(false, 0), (false, 1), (false, 2), (true, 0), (false, 4)] rfl rfl (by decide) hP hD hk_ hF_1 hp_ hd_) (fun r_1 u_1 H locs h_1 hP hD hS => ?_)
  have hP : va_P G.1 vwCl ([oC h ad sn hsh, oX (ad 1) 1 [.ref (ad 11), .int (nI L), .int stp, .int why], aI G (ad 11) 64 st, oX (ad 9) 11 [.int mc, .ref ea, .int (nI k)], aO G ea 10 ef] ++ tl) _ := hP
  have hD : va_D A ([oC h ad sn hsh, oX (ad 1) 1 [.ref (ad 11), .int (nI L), .int stp, .int why], aI G (ad 11) 64 st, oX (ad 9) 11 [.int mc, .ref ea, .int (nI k)], aO G ea 10 ef] ++ tl) := hD
  have h_1 : r_1 = (nI k) := h_1
  rw [h_1]
  refine lv_bipush (v := nI 6) hx hb dX1_save_7 (by decide) ?_
  refine N_icmp_ne (tgt := 26) hx hb dX1_save_9 (by decide) (by omega) (by omega) (fun c_9 => ?_) (fun c_9 => ?_)
  · skip
    refine va_new (ci := 1) (fs := [.null, .int (nI 0), .int (nI 0), .int (nI 0)]) (C := RX2) (T := TX2) (N := 4) hx hb hts in_X2 tyX2 tyX2_ok hown (hts _ q152) (hts _ q153) (hts _ q107) hK hP hD hS hA rfl (fun j hj => by rcases (show j = 0 ∨ j = 1 ∨ j = 2 ∨ j = 3 by omega) with rfl | rfl | rfl | rfl <;> rfl) (by first | exact Nat.le_of_ble_eq_true rfl | omega) (by first | exact Nat.le_of_ble_eq_true rfl | omega) dX1_save_26 (fun q2 H hP hD hS => ?_)
    have hP := hP.swap
    have hD := hD.swap
    have hP : va_P G.1 vwCl ([oC h ad sn hsh, oX (ad 1) 1 [.ref (ad 11), .int (nI L), .int stp, .int why], aI G (ad 11) 64 st, oX (ad 9) 11 [.int mc, .ref ea, .int (nI k)], aO G ea 10 ef, oX q2 1 [.null, .int (nI 0), .int (nI 0), .int (nI 0)]] ++ tl) _ := hP
    have hD : va_D A ([oC h ad sn hsh, oX (ad 1) 1 [.ref (ad 11), .int (nI L), .int stp, .int why], aI G (ad 11) 64 st, oX (ad 9) 11 [.int mc, .ref ea, .int (nI k)], aO G ea 10 ef, oX q2 1 [.null, .int (nI 0), .int (nI 0), .int (nI 0)]] ++ tl) := hD
    refine lv_dup hx hb dX1_save_29 rfl ?_
    have hF_3 := fr_free (wc := [oX q2 1 [.null, .int (nI 0), .int (nI 0), .int (nI 0)]]) [5] rfl hA hS hD
    refine fin_vF (ws' := (fun (u_3 : Nat) => ([oC h ad sn hsh, oX (ad 1) 1 [.ref (ad 11), .int (nI L), .int stp, .int why], aI G (ad 11) 64 st, oX (ad 9) 11 [.int mc, .ref ea, .int (nI k)], aO G ea 10 ef, oX q2 1 [.ref u_3, .int (nI 3), .int ((-1)), .int (nI 0)], aI G u_3 64 (fun _ => 0)] ++ tl))) hS hF_3 (run_IN (As := []) (rest := [.ref q2]) (n9 := 0) (host := "CrumbPictures") hx hb hml hown hts hE hAb hl.1 hS hP hD [5] rfl (by decide) (t_X2_init l G b0 _ q2 ) (lw_meth q156) q154 q107 q155 rfl ⟨by decide, by decide, by decide +kernel⟩ ⟨Nat.le_of_ble_eq_true rfl, Nat.le_of_ble_eq_true rfl⟩ ⟨by first | exact Nat.le_of_ble_eq_true rfl | (simp only [rm_X1_save_0, rm_X2_init, rm_J9_size]; omega), by first | exact Nat.le_of_ble_eq_true rfl | (simp only [rm_X1_save_0, rm_X2_init, rm_J9_size]; omega)⟩ dX1_save_30 (Nat.le_of_ble_eq_true rfl) rfl rfl) (fun u_3 H1_ hk_ hp_ hd_ => fr_selT (ws := [oC h ad sn hsh, oX (ad 1) 1 [.ref (ad 11), .int (nI L), .int stp, .int why], aI G (ad 11) 64 st, oX (ad 9) 11 [.int mc, .ref ea, .int (nI k)], aO G ea 10 ef, oX q2 1 [.null, .int (nI 0), .int (nI 0), .int (nI 0)]]) (wc := [oX q2 1 [.null, .int (nI 0), .int (nI 0), .int (nI 0)]]) (ws' := [oC h ad sn hsh, oX (ad 1) 1 [.ref (ad 11), .int (nI L), .int stp, .int why], aI G (ad 11) 64 st, oX (ad 9) 11 [.int mc, .ref ea, .int (nI k)], aO G ea 10 ef, oX q2 1 [.ref u_3, .int (nI 3), .int ((-1)), .int (nI 0)], aI G u_3 64 (fun _ => 0)]) (tl := tl) [5] [(false, 0), (false, 1), (false, 2), (false, 3), (false, 4), (true, 0), (true, 1)] rfl rfl (by decide) hP hD hk_ hF_3 hp_ hd_) (fun u_3 H locs h_3 hP hD hS => ?_)
    have hP : va_P G.1 vwCl ([oC h ad sn hsh, oX (ad 1) 1 [.ref (ad 11), .int (nI L), .int stp, .int why], aI G (ad 11) 64 st, oX (ad 9) 11 [.int mc, .ref ea, .int (nI k)], aO G ea 10 ef, oX q2 1 [.ref u_3, .int (nI 3), .int ((-1)), .int (nI 0)], aI G u_3 64 (fun _ => 0)] ++ tl) _ := hP
    have hD : va_D A ([oC h ad sn hsh, oX (ad 1) 1 [.ref (ad 11), .int (nI L), .int stp, .int why], aI G (ad 11) 64 st, oX (ad 9) 11 [.int mc, .ref ea, .int (nI k)], aO G ea 10 ef, oX q2 1 [.ref u_3, .int (nI 3), .int ((-1)), .int (nI 0)], aI G u_3 64 (fun _ => 0)] ++ tl) := hD
    refine lv_astore_n (lv' := [(1, .ref q2), (0, .ref h)]) hx hb dX1_save_33 rfl hl (by decide) rfl (fun ls hl => ?_)
    refine lv_aload_n hx hb dX1_save_34 rfl (lv_at hl 1 rfl) ?_
    refine va_get (D := G.1) (ci := 0) (v := .ref (ad 9)) (C := RX1) (T := TX1) (N := 12) hx hb hts in_X1 hown hK hP 0 rfl rfl 8 (by decide) (hts _ q502) (fun _ h9 => h9) rfl dX1_save_35 ?_
    refine lv_aload_n hx hb dX1_save_38 rfl (lv_at hl 0 rfl) ?_
    refine lv_aload_n hx hb dX1_save_39 rfl (lv_at hl 1 rfl) ?_
    refine va_get (D := G.1) (ci := 0) (v := .ref (ad 1)) (C := RX1) (T := TX1) (N := 12) hx hb hts in_X1 hown hK hP 0 rfl rfl 0 (by decide) (hts _ q494) (fun _ h9 => h9) rfl dX1_save_40 ?_
    have hF_4 := fr_free (wc := [oX q2 1 [.ref u_3, .int (nI 3), .int ((-1)), .int (nI 0)], aI G u_3 64 (fun _ => 0), oX (ad 1) 1 [.ref (ad 11), .int (nI L), .int stp, .int why], aI G (ad 11) 64 st]) [5, 6, 1, 2] rfl hA hS hD
    refine fin_rF (ws' := (fun (_ : Unit) => ([oC h ad sn hsh, oX (ad 1) 1 [.ref (ad 11), .int (nI L), .int stp, .int why], aI G (ad 11) 64 st, oX (ad 9) 11 [.int mc, .ref ea, .int (nI k)], aO G ea 10 ef, oX q2 1 [.ref u_3, .int (nI L), .int stp, .int why], aI G u_3 64 st] ++ tl))) hS hF_4 (run_V (As := [.ref (ad 1)]) (rest := [.ref (ad 9)]) (n9 := 1) hx hb hml hown hts hE hAb hl.1 hS hP hD [5, 6, 1, 2] rfl (by decide) (t_X2_become l G b0 _ q2 u_3 (fun _ => 0) (nI 3) ((-1)) (nI 0) (ad 1) (ad 11) st (nI L) stp why ) (lw_V q561 q562 q563 q107 q564) 5 rfl rfl ⟨rfl, by decide, by decide, by decide +kernel⟩ ⟨Nat.le_of_ble_eq_true rfl, Nat.le_of_ble_eq_true rfl⟩ ⟨by first | exact Nat.le_of_ble_eq_true rfl | (simp only [rm_X1_save_0, rm_X2_become, rm_J9_size, rm_X2_init]; omega), by first | exact Nat.le_of_ble_eq_true rfl | (simp only [rm_X1_save_0, rm_X2_become, rm_J9_size, rm_X2_init]; omega)⟩ dX1_save_43 (Nat.le_of_ble_eq_true rfl) rfl rfl) (fun _ H1_ hk_ hp_ hd_ => fr_selT (ws := [oC h ad sn hsh, oX (ad 1) 1 [.ref (ad 11), .int (nI L), .int stp, .int why], aI G (ad 11) 64 st, oX (ad 9) 11 [.int mc, .ref ea, .int (nI k)], aO G ea 10 ef, oX q2 1 [.ref u_3, .int (nI 3), .int ((-1)), .int (nI 0)], aI G u_3 64 (fun _ => 0)]) (wc := [oX q2 1 [.ref u_3, .int (nI 3), .int ((-1)), .int (nI 0)], aI G u_3 64 (fun _ => 0), oX (ad 1) 1 [.ref (ad 11), .int (nI L), .int stp, .int why], aI G (ad 11) 64 st]) (ws' := [oC h ad sn hsh, oX (ad 1) 1 [.ref (ad 11), .int (nI L), .int stp, .int why], aI G (ad 11) 64 st, oX (ad 9) 11 [.int mc, .ref ea, .int (nI k)], aO G ea 10 ef, oX q2 1 [.ref u_3, .int (nI L), .int stp, .int why], aI G u_3 64 st]) (tl := tl) [5, 6, 1, 2] [(false, 0), (true, 2), (true, 3), (false, 3), (false, 4), (true, 0), (true, 1)] rfl rfl (by decide) hP hD hk_ hF_4 hp_ hd_) (fun u_4 H locs h_4 hP hD hS => ?_)
    have hP : va_P G.1 vwCl ([oC h ad sn hsh, oX (ad 1) 1 [.ref (ad 11), .int (nI L), .int stp, .int why], aI G (ad 11) 64 st, oX (ad 9) 11 [.int mc, .ref ea, .int (nI k)], aO G ea 10 ef, oX q2 1 [.ref u_3, .int (nI L), .int stp, .int why], aI G u_3 64 st] ++ tl) _ := hP
    have hD : va_D A ([oC h ad sn hsh, oX (ad 1) 1 [.ref (ad 11), .int (nI L), .int stp, .int why], aI G (ad 11) 64 st, oX (ad 9) 11 [.int mc, .ref ea, .int (nI k)], aO G ea 10 ef, oX q2 1 [.ref u_3, .int (nI L), .int stp, .int why], aI G u_3 64 st] ++ tl) := hD
    refine W.eq (g2 := F0 m 46 ls [.ref q2, .ref (ad 9)]) rfl ?_
    have hF_5 := fr_free (wc := [oX (ad 9) 11 [.int mc, .ref ea, .int (nI k)], aO G ea 10 ef, oX q2 1 [.ref u_3, .int (nI L), .int stp, .int why]]) [3, 4, 5] rfl hA hS hD
    refine fin_iF (ws' := (fun (_ : Unit) => ([oC h ad sn hsh, oX (ad 1) 1 [.ref (ad 11), .int (nI L), .int stp, .int why], aI G (ad 11) 64 st, oX (ad 9) 11 [.int (mc + nI 1), .ref ea, .int (nI (k + 1))], aO G ea 10 (va_up ef k (some q2)), oX q2 1 [.ref u_3, .int (nI L), .int stp, .int why], aI G u_3 64 st] ++ tl))) hS hF_5 (run_V (As := [.ref q2]) (rest := []) (n9 := 1) hx hb hml hown hts hE hAb hl.1 hS hP hD [3, 4, 5] rfl (by decide) (t_J9_add_0 l G b0 _ (ad 9) ea k mc ef q2 u_3 L stp why (by omega)) (lw_V q566 q567 q568 q124 q569) 3 rfl rfl ⟨rfl, by decide, by decide, by decide +kernel⟩ ⟨Nat.le_of_ble_eq_true rfl, Nat.le_of_ble_eq_true rfl⟩ ⟨by first | exact Nat.le_of_ble_eq_true rfl | (simp only [rm_X1_save_0, rm_J9_add_0, rm_J9_size, rm_X2_init, rm_X2_become]; omega), by first | exact Nat.le_of_ble_eq_true rfl | (simp only [rm_X1_save_0, rm_J9_add_0, rm_J9_size, rm_X2_init, rm_X2_become]; omega)⟩ dX1_save_46 (Nat.le_of_ble_eq_true rfl) rfl rfl) (fun _ H1_ hk_ hp_ hd_ => fr_selT (ws := [oC h ad sn hsh, oX (ad 1) 1 [.ref (ad 11), .int (nI L), .int stp, .int why], aI G (ad 11) 64 st, oX (ad 9) 11 [.int mc, .ref ea, .int (nI k)], aO G ea 10 ef, oX q2 1 [.ref u_3, .int (nI L), .int stp, .int why], aI G u_3 64 st]) (wc := [oX (ad 9) 11 [.int mc, .ref ea, .int (nI k)], aO G ea 10 ef, oX q2 1 [.ref u_3, .int (nI L), .int stp, .int why]]) (ws' := [oC h ad sn hsh, oX (ad 1) 1 [.ref (ad 11), .int (nI L), .int stp, .int why], aI G (ad 11) 64 st, oX (ad 9) 11 [.int (mc + nI 1), .ref ea, .int (nI (k + 1))], aO G ea 10 (va_up ef k (some q2)), oX q2 1 [.ref u_3, .int (nI L), .int stp, .int why], aI G u_3 64 st]) (tl := tl) [3, 4, 5] [(false, 0), (false, 1), (false, 2), (true, 0), (true, 1), (true, 2), (false, 6)] rfl rfl (by decide) hP hD hk_ hF_5 hp_ hd_) (fun r_5 u_5 H locs h_5 hP hD hS => ?_)
    have hP : va_P G.1 vwCl ([oC h ad sn hsh, oX (ad 1) 1 [.ref (ad 11), .int (nI L), .int stp, .int why], aI G (ad 11) 64 st, oX (ad 9) 11 [.int (mc + nI 1), .ref ea, .int (nI (k + 1))], aO G ea 10 (va_up ef k (some q2)), oX q2 1 [.ref u_3, .int (nI L), .int stp, .int why], aI G u_3 64 st] ++ tl) _ := hP
    have hD : va_D A ([oC h ad sn hsh, oX (ad 1) 1 [.ref (ad 11), .int (nI L), .int stp, .int why], aI G (ad 11) 64 st, oX (ad 9) 11 [.int (mc + nI 1), .ref ea, .int (nI (k + 1))], aO G ea 10 (va_up ef k (some q2)), oX q2 1 [.ref u_3, .int (nI L), .int stp, .int why], aI G u_3 64 st] ++ tl) := hD
    have h_5 : r_5 = (bI true) := h_5
    rw [h_5]
    refine lv_pop hx hb dX1_save_49 rfl ?_
    rw [hQQ]
    exact rt_v hx hb hr hlk (((q2, u_3))) dX1_save_50 hP hD hS (by first | exact Nat.le_of_ble_eq_true rfl | (simp only [rm_X1_save_0, rm_J9_size, rm_X2_init, rm_X2_become, rm_J9_add_0]; omega) | omega) (by first | exact Nat.le_of_ble_eq_true rfl | (simp only [rm_X1_save_0, rm_J9_size, rm_X2_init, rm_X2_become, rm_J9_add_0]; omega) | omega) trivial
  · skip
    exfalso; omega
def rm_X1_save_1 : Room := ({ frames := 6, cells := 4, slots := 80, locals := 200 } : Room)
set_option maxHeartbeats 400000 in
set_option maxRecDepth 100000 in
theorem t_X1_save_1 (l : Launch) (G : GG) (b0 sz : Nat) (h : Nat) (ad : Nat → Nat) (sn : Value) (hsh : Int64) (L : Nat) (stp why : Int32) (st : Nat → Int32) (mc os ow : Int32) (ea o_ oa oL : Nat) (of_ : Nat → Int32) (ef : Nat → Option Nat) (ys : List svR) (hT : ∀ i y, ef i = some y → ∃ (j : Nat) (vs : List Value), ((svW G ys ++ [oX o_ 1 [.ref oa, .int (nI oL), .int os, .int ow], aI G oa 64 of_]))[j]? = some (y, .inr (1, vs))) (hr_ : ef 0 = some o_) : CT l yX1_save cX1_save 2 none (rm_X1_save_1) G b0 [.ref h] ([oC h ad sn hsh, oX (ad 1) 1 [.ref (ad 11), .int (nI L), .int stp, .int why], aI G (ad 11) 64 st, oX (ad 9) 11 [.int mc, .ref ea, .int (nI 6)], aO G ea 10 ef] ++ ((svW G ys ++ [oX o_ 1 [.ref oa, .int (nI oL), .int os, .int ow], aI G oa 64 of_]))) sz (Rv G (fun (_ : Unit) => True) (fun (_ : Unit) => ([oC h ad sn hsh, oX (ad 1) 1 [.ref (ad 11), .int (nI L), .int stp, .int why], aI G (ad 11) 64 st, oX (ad 9) 11 [.int (mc + nI 1 + nI 1), .ref ea, .int (nI 6)], aO G ea 10 (va_up (va_up (va_cpy ef ef 1 0 (6 - 1 - 0)) (6 - 1) none) 5 (some o_)), oX o_ 1 [.ref oa, .int (nI L), .int stp, .int why], aI G oa 64 st] ++ ((svW G ys))))) := by
  refine CT.go (by decide) (Nat.le_of_ble_eq_true rfl) (fun p e s m below meth c A ls AR QQ hx hb hr hlk hml hown hnm hts hE hA hAb hsz hP hD hS hl hQQ => ?_)
  have hK := hE.1
  have hown : s.vm.findClass RX1 = some m.cls := hown
  have hl : lv_has ls 2 [(0, .ref h)] := hl
  clear hsz
  refine lv_aload_n hx hb dX1_save_0 rfl (lv_at hl 0 rfl) ?_
  refine va_get (D := G.1) (ci := 0) (v := .ref (ad 9)) (C := RX1) (T := TX1) (N := 12) hx hb hts in_X1 hown hK hP 0 rfl rfl 8 (by decide) (hts _ q502) (fun _ h9 => h9) rfl dX1_save_1 ?_
  have hF_1 := fr_free (wc := [oX (ad 9) 11 [.int mc, .ref ea, .int (nI 6)]]) [3] rfl hA hS hD
  refine fin_iF (ws' := (fun (_ : Unit) => ([oC h ad sn hsh, oX (ad 1) 1 [.ref (ad 11), .int (nI L), .int stp, .int why], aI G (ad 11) 64 st, oX (ad 9) 11 [.int mc, .ref ea, .int (nI 6)], aO G ea 10 ef] ++ ((svW G ys ++ [oX o_ 1 [.ref oa, .int (nI oL), .int os, .int ow], aI G oa 64 of_]))))) hS hF_1 (run_V (As := []) (rest := []) (n9 := 0) hx hb hml hown hts hE hAb hl.1 hS hP hD [3] rfl (by decide) (t_J9_size l G b0 _ (ad 9) ea 6 mc ) (lw_V q540 q541 q542 q124 q543) 3 rfl rfl ⟨rfl, by decide, by decide, by decide +kernel⟩ ⟨Nat.le_of_ble_eq_true rfl, Nat.le_of_ble_eq_true rfl⟩ ⟨by first | exact Nat.le_of_ble_eq_true rfl | (simp only [rm_X1_save_1, rm_J9_size]; omega), by first | exact Nat.le_of_ble_eq_true rfl | (simp only [rm_X1_save_1, rm_J9_size]; omega)⟩ dX1_save_4 (Nat.le_of_ble_eq_true rfl) rfl rfl) (fun _ H1_ hk_ hp_ hd_ => fr_selT (ws := [oC h ad sn hsh, oX (ad 1) 1 [.ref (ad 11), .int (nI L), .int stp, .int why], aI G (ad 11) 64 st, oX (ad 9) 11 [.int mc, .ref ea, .int (nI 6)], aO G ea 10 ef]) (wc := [oX (ad 9) 11 [.int mc, .ref ea, .int (nI 6)]]) (ws' := [oC h ad sn hsh, oX (ad 1) 1 [.ref (ad 11), .int (nI L), .int stp, .int why], aI G (ad 11) 64 st, oX (ad 9) 11 [.int mc, .ref ea, .int (nI 6)], aO G ea 10 ef]) (tl := ((svW G ys ++ [oX o_ 1 [.ref oa, .int (nI oL), .int os, .int ow], aI G oa 64 of_]))) [3] [(false, 0), (false, 1), (false, 2), (true, 0), (false, 4)] rfl rfl (by decide) hP hD hk_ hF_1 hp_ hd_) (fun r_1 u_1 H locs h_1 hP hD hS => ?_)
  have hP : va_P G.1 vwCl ([oC h ad sn hsh, oX (ad 1) 1 [.ref (ad 11), .int (nI L), .int stp, .int why], aI G (ad 11) 64 st, oX (ad 9) 11 [.int mc, .ref ea, .int (nI 6)], aO G ea 10 ef] ++ ((svW G ys ++ [oX o_ 1 [.ref oa, .int (nI oL), .int os, .int ow], aI G oa 64 of_]))) _ := hP
  have hD : va_D A ([oC h ad sn hsh, oX (ad 1) 1 [.ref (ad 11), .int (nI L), .int stp, .int why], aI G (ad 11) 64 st, oX (ad 9) 11 [.int mc, .ref ea, .int (nI 6)], aO G ea 10 ef] ++ ((svW G ys ++ [oX o_ 1 [.ref oa, .int (nI oL), .int os, .int ow], aI G oa 64 of_]))) := hD
  have h_1 : r_1 = (nI 6) := h_1
  rw [h_1]
  refine lv_bipush (v := nI 6) hx hb dX1_save_7 (by decide) ?_
  refine N_icmp_ne (tgt := 26) hx hb dX1_save_9 (by decide) (by omega) (by omega) (fun c_9 => ?_) (fun c_9 => ?_)
  · skip
    exfalso; omega
  · skip
    refine lv_aload_n hx hb dX1_save_12 rfl (lv_at hl 0 rfl) ?_
    refine va_get (D := G.1) (ci := 0) (v := .ref (ad 9)) (C := RX1) (T := TX1) (N := 12) hx hb hts in_X1 hown hK hP 0 rfl rfl 8 (by decide) (hts _ q502) (fun _ h9 => h9) rfl dX1_save_13 ?_
    refine lv_iconst (v := nI 0) hx hb dX1_save_16 (by decide) ?_
    have hF_2 := fr_free (wc := [oX (ad 9) 11 [.int mc, .ref ea, .int (nI 6)], aO G ea 10 ef] ++ ((svW G ys ++ [oX o_ 1 [.ref oa, .int (nI oL), .int os, .int ow], aI G oa 64 of_]))) (isT [3, 4] 5 ((svW G ys ++ [oX o_ 1 [.ref oa, .int (nI oL), .int os, .int ow], aI G oa 64 of_]))) (isT_C (ws := [oC h ad sn hsh, oX (ad 1) 1 [.ref (ad 11), .int (nI L), .int stp, .int why], aI G (ad 11) 64 st, oX (ad 9) 11 [.int mc, .ref ea, .int (nI 6)], aO G ea 10 ef]) (wc := [oX (ad 9) 11 [.int mc, .ref ea, .int (nI 6)], aO G ea 10 ef]) rfl) hA hS hD
    refine fin_rF (ws' := (fun (_ : Unit) => ([oC h ad sn hsh, oX (ad 1) 1 [.ref (ad 11), .int (nI L), .int stp, .int why], aI G (ad 11) 64 st, oX (ad 9) 11 [.int (mc + nI 1), .ref ea, .int (nI (6 - 1))], aO G ea 10 (va_up (va_cpy ef ef 1 0 (6 - 1 - 0)) (6 - 1) none)] ++ ((svW G ys ++ [oX o_ 1 [.ref oa, .int (nI oL), .int os, .int ow], aI G oa 64 of_]))))) hS hF_2 (run_V (As := [.int (nI 0)]) (rest := []) (n9 := 1) hx hb hml hown hts hE hAb hl.1 hS hP hD (isT [3, 4] 5 ((svW G ys ++ [oX o_ 1 [.ref oa, .int (nI oL), .int os, .int ow], aI G oa 64 of_]))) (isT_C (ws := [oC h ad sn hsh, oX (ad 1) 1 [.ref (ad 11), .int (nI L), .int stp, .int why], aI G (ad 11) 64 st, oX (ad 9) 11 [.int mc, .ref ea, .int (nI 6)], aO G ea 10 ef]) (wc := [oX (ad 9) 11 [.int mc, .ref ea, .int (nI 6)], aO G ea 10 ef]) rfl) (isT_n (by decide)) (t_J9_remove_f l G b0 _ (ad 9) ea 6 mc ef o_ ((svW G ys ++ [oX o_ 1 [.ref oa, .int (nI oL), .int os, .int ow], aI G oa 64 of_])) (by omega) (by omega) (by exact hT) (by exact hr_)) (lw_V q544 q545 q546 q124 q547) 3 rfl rfl ⟨rfl, by decide, by decide, by decide +kernel⟩ ⟨Nat.le_of_ble_eq_true rfl, Nat.le_of_ble_eq_true rfl⟩ ⟨by first | exact Nat.le_of_ble_eq_true rfl | (simp only [rm_X1_save_1, rm_J9_remove_f, rm_J9_size]; omega), by first | exact Nat.le_of_ble_eq_true rfl | (simp only [rm_X1_save_1, rm_J9_remove_f, rm_J9_size]; omega)⟩ dX1_save_17 (Nat.le_of_ble_eq_true rfl) rfl rfl) (fun _ H1_ hk_ hp_ hd_ => fr_selP (w1 := [oX (ad 9) 11 [.int (mc + nI 1), .ref ea, .int (nI (6 - 1))], aO G ea 10 (va_up (va_cpy ef ef 1 0 (6 - 1 - 0)) (6 - 1) none)]) (ws := [oC h ad sn hsh, oX (ad 1) 1 [.ref (ad 11), .int (nI L), .int stp, .int why], aI G (ad 11) 64 st, oX (ad 9) 11 [.int mc, .ref ea, .int (nI 6)], aO G ea 10 ef]) (wc := [oX (ad 9) 11 [.int mc, .ref ea, .int (nI 6)], aO G ea 10 ef]) (ws' := [oC h ad sn hsh, oX (ad 1) 1 [.ref (ad 11), .int (nI L), .int stp, .int why], aI G (ad 11) 64 st, oX (ad 9) 11 [.int (mc + nI 1), .ref ea, .int (nI (6 - 1))], aO G ea 10 (va_up (va_cpy ef ef 1 0 (6 - 1 - 0)) (6 - 1) none)]) (tl := ((svW G ys ++ [oX o_ 1 [.ref oa, .int (nI oL), .int os, .int ow], aI G oa 64 of_]))) [3, 4] [(false, 0), (false, 1), (false, 2), (true, 0), (true, 1)] 2 rfl rfl rfl (by decide) hP hD hk_ hF_2 hp_ hd_) (fun u_2 H locs h_2 hP hD hS => ?_)
    have hP : va_P G.1 vwCl ([oC h ad sn hsh, oX (ad 1) 1 [.ref (ad 11), .int (nI L), .int stp, .int why], aI G (ad 11) 64 st, oX (ad 9) 11 [.int (mc + nI 1), .ref ea, .int (nI (6 - 1))], aO G ea 10 (va_up (va_cpy ef ef 1 0 (6 - 1 - 0)) (6 - 1) none)] ++ ((svW G ys ++ [oX o_ 1 [.ref oa, .int (nI oL), .int os, .int ow], aI G oa 64 of_]))) _ := hP
    have hD : va_D A ([oC h ad sn hsh, oX (ad 1) 1 [.ref (ad 11), .int (nI L), .int stp, .int why], aI G (ad 11) 64 st, oX (ad 9) 11 [.int (mc + nI 1), .ref ea, .int (nI (6 - 1))], aO G ea 10 (va_up (va_cpy ef ef 1 0 (6 - 1 - 0)) (6 - 1) none)] ++ ((svW G ys ++ [oX o_ 1 [.ref oa, .int (nI oL), .int os, .int ow], aI G oa 64 of_]))) := hD
    refine W.eq (g2 := F0 m 20 ls [.ref o_]) rfl ?_
    have hP : va_P G.1 vwCl (([oC h ad sn hsh, oX (ad 1) 1 [.ref (ad 11), .int (nI L), .int stp, .int why], aI G (ad 11) 64 st, oX (ad 9) 11 [.int (mc + nI 1), .ref ea, .int (nI (6 - 1))], aO G ea 10 (va_up (va_cpy ef ef 1 0 (6 - 1 - 0)) (6 - 1) none)] ++ svW G ys) ++ [oX o_ 1 [.ref oa, .int (nI oL), .int os, .int ow], aI G oa 64 of_]) _ := hP
    have hD : va_D A (([oC h ad sn hsh, oX (ad 1) 1 [.ref (ad 11), .int (nI L), .int stp, .int why], aI G (ad 11) 64 st, oX (ad 9) 11 [.int (mc + nI 1), .ref ea, .int (nI (6 - 1))], aO G ea 10 (va_up (va_cpy ef ef 1 0 (6 - 1 - 0)) (6 - 1) none)] ++ svW G ys) ++ [oX o_ 1 [.ref oa, .int (nI oL), .int os, .int ow], aI G oa 64 of_]) := hD
    have hP := hP.swap
    have hD := hD.swap
    have hP : va_P G.1 vwCl ([oC h ad sn hsh, oX (ad 1) 1 [.ref (ad 11), .int (nI L), .int stp, .int why], aI G (ad 11) 64 st, oX (ad 9) 11 [.int (mc + nI 1), .ref ea, .int (nI (6 - 1))], aO G ea 10 (va_up (va_cpy ef ef 1 0 (6 - 1 - 0)) (6 - 1) none), oX o_ 1 [.ref oa, .int (nI oL), .int os, .int ow], aI G oa 64 of_] ++ ((svW G ys))) _ := hP
    have hD : va_D A ([oC h ad sn hsh, oX (ad 1) 1 [.ref (ad 11), .int (nI L), .int stp, .int why], aI G (ad 11) 64 st, oX (ad 9) 11 [.int (mc + nI 1), .ref ea, .int (nI (6 - 1))], aO G ea 10 (va_up (va_cpy ef ef 1 0 (6 - 1 - 0)) (6 - 1) none), oX o_ 1 [.ref oa, .int (nI oL), .int os, .int ow], aI G oa 64 of_] ++ ((svW G ys))) := hD
    refine va_castS (nm := "CrumbPictures$Sheet") hx hb hown (hts _ q152) (hE.1.1 1 _ rfl).2 (va_recv hE.1 hP (ci := 1) (q0 := 5) rfl rfl) dX1_save_20 ?_
    refine lv_goto (tgt := 33) hx hb dX1_save_23 (by decide) ?_
    refine lv_astore_n (lv' := [(1, .ref o_), (0, .ref h)]) hx hb dX1_save_33 rfl hl (by decide) rfl (fun ls hl => ?_)
    refine lv_aload_n hx hb dX1_save_34 rfl (lv_at hl 1 rfl) ?_
    refine va_get (D := G.1) (ci := 0) (v := .ref (ad 9)) (C := RX1) (T := TX1) (N := 12) hx hb hts in_X1 hown hK hP 0 rfl rfl 8 (by decide) (hts _ q502) (fun _ h9 => h9) rfl dX1_save_35 ?_
    refine lv_aload_n hx hb dX1_save_38 rfl (lv_at hl 0 rfl) ?_
    refine lv_aload_n hx hb dX1_save_39 rfl (lv_at hl 1 rfl) ?_
    refine va_get (D := G.1) (ci := 0) (v := .ref (ad 1)) (C := RX1) (T := TX1) (N := 12) hx hb hts in_X1 hown hK hP 0 rfl rfl 0 (by decide) (hts _ q494) (fun _ h9 => h9) rfl dX1_save_40 ?_
    have hF_3 := fr_free (wc := [oX o_ 1 [.ref oa, .int (nI oL), .int os, .int ow], aI G oa 64 of_, oX (ad 1) 1 [.ref (ad 11), .int (nI L), .int stp, .int why], aI G (ad 11) 64 st]) [5, 6, 1, 2] rfl hA hS hD
    refine fin_rF (ws' := (fun (_ : Unit) => ([oC h ad sn hsh, oX (ad 1) 1 [.ref (ad 11), .int (nI L), .int stp, .int why], aI G (ad 11) 64 st, oX (ad 9) 11 [.int (mc + nI 1), .ref ea, .int (nI (6 - 1))], aO G ea 10 (va_up (va_cpy ef ef 1 0 (6 - 1 - 0)) (6 - 1) none), oX o_ 1 [.ref oa, .int (nI L), .int stp, .int why], aI G oa 64 st] ++ ((svW G ys))))) hS hF_3 (run_V (As := [.ref (ad 1)]) (rest := [.ref (ad 9)]) (n9 := 1) hx hb hml hown hts hE hAb hl.1 hS hP hD [5, 6, 1, 2] rfl (by decide) (t_X2_become l G b0 _ o_ oa of_ (nI oL) os ow (ad 1) (ad 11) st (nI L) stp why ) (lw_V q561 q562 q563 q107 q564) 5 rfl rfl ⟨rfl, by decide, by decide, by decide +kernel⟩ ⟨Nat.le_of_ble_eq_true rfl, Nat.le_of_ble_eq_true rfl⟩ ⟨by first | exact Nat.le_of_ble_eq_true rfl | (simp only [rm_X1_save_1, rm_X2_become, rm_J9_size, rm_J9_remove_f]; omega), by first | exact Nat.le_of_ble_eq_true rfl | (simp only [rm_X1_save_1, rm_X2_become, rm_J9_size, rm_J9_remove_f]; omega)⟩ dX1_save_43 (Nat.le_of_ble_eq_true rfl) rfl rfl) (fun _ H1_ hk_ hp_ hd_ => fr_selT (ws := [oC h ad sn hsh, oX (ad 1) 1 [.ref (ad 11), .int (nI L), .int stp, .int why], aI G (ad 11) 64 st, oX (ad 9) 11 [.int (mc + nI 1), .ref ea, .int (nI (6 - 1))], aO G ea 10 (va_up (va_cpy ef ef 1 0 (6 - 1 - 0)) (6 - 1) none), oX o_ 1 [.ref oa, .int (nI oL), .int os, .int ow], aI G oa 64 of_]) (wc := [oX o_ 1 [.ref oa, .int (nI oL), .int os, .int ow], aI G oa 64 of_, oX (ad 1) 1 [.ref (ad 11), .int (nI L), .int stp, .int why], aI G (ad 11) 64 st]) (ws' := [oC h ad sn hsh, oX (ad 1) 1 [.ref (ad 11), .int (nI L), .int stp, .int why], aI G (ad 11) 64 st, oX (ad 9) 11 [.int (mc + nI 1), .ref ea, .int (nI (6 - 1))], aO G ea 10 (va_up (va_cpy ef ef 1 0 (6 - 1 - 0)) (6 - 1) none), oX o_ 1 [.ref oa, .int (nI L), .int stp, .int why], aI G oa 64 st]) (tl := ((svW G ys))) [5, 6, 1, 2] [(false, 0), (true, 2), (true, 3), (false, 3), (false, 4), (true, 0), (true, 1)] rfl rfl (by decide) hP hD hk_ hF_3 hp_ hd_) (fun u_3 H locs h_3 hP hD hS => ?_)
    have hP : va_P G.1 vwCl ([oC h ad sn hsh, oX (ad 1) 1 [.ref (ad 11), .int (nI L), .int stp, .int why], aI G (ad 11) 64 st, oX (ad 9) 11 [.int (mc + nI 1), .ref ea, .int (nI (6 - 1))], aO G ea 10 (va_up (va_cpy ef ef 1 0 (6 - 1 - 0)) (6 - 1) none), oX o_ 1 [.ref oa, .int (nI L), .int stp, .int why], aI G oa 64 st] ++ ((svW G ys))) _ := hP
    have hD : va_D A ([oC h ad sn hsh, oX (ad 1) 1 [.ref (ad 11), .int (nI L), .int stp, .int why], aI G (ad 11) 64 st, oX (ad 9) 11 [.int (mc + nI 1), .ref ea, .int (nI (6 - 1))], aO G ea 10 (va_up (va_cpy ef ef 1 0 (6 - 1 - 0)) (6 - 1) none), oX o_ 1 [.ref oa, .int (nI L), .int stp, .int why], aI G oa 64 st] ++ ((svW G ys))) := hD
    refine W.eq (g2 := F0 m 46 ls [.ref o_, .ref (ad 9)]) rfl ?_
    have hF_4 := fr_free (wc := [oX (ad 9) 11 [.int (mc + nI 1), .ref ea, .int (nI (6 - 1))], aO G ea 10 (va_up (va_cpy ef ef 1 0 (6 - 1 - 0)) (6 - 1) none), oX o_ 1 [.ref oa, .int (nI L), .int stp, .int why]]) [3, 4, 5] rfl hA hS hD
    refine fin_iF (ws' := (fun (_ : Unit) => ([oC h ad sn hsh, oX (ad 1) 1 [.ref (ad 11), .int (nI L), .int stp, .int why], aI G (ad 11) 64 st, oX (ad 9) 11 [.int ((mc + nI 1) + nI 1), .ref ea, .int (nI ((6 - 1) + 1))], aO G ea 10 (va_up (va_up (va_cpy ef ef 1 0 (6 - 1 - 0)) (6 - 1) none) (6 - 1) (some o_)), oX o_ 1 [.ref oa, .int (nI L), .int stp, .int why], aI G oa 64 st] ++ ((svW G ys))))) hS hF_4 (run_V (As := [.ref o_]) (rest := []) (n9 := 1) hx hb hml hown hts hE hAb hl.1 hS hP hD [3, 4, 5] rfl (by decide) (t_J9_add_0 l G b0 _ (ad 9) ea (6 - 1) (mc + nI 1) (va_up (va_cpy ef ef 1 0 (6 - 1 - 0)) (6 - 1) none) o_ oa L stp why (by omega)) (lw_V q566 q567 q568 q124 q569) 3 rfl rfl ⟨rfl, by decide, by decide, by decide +kernel⟩ ⟨Nat.le_of_ble_eq_true rfl, Nat.le_of_ble_eq_true rfl⟩ ⟨by first | exact Nat.le_of_ble_eq_true rfl | (simp only [rm_X1_save_1, rm_J9_add_0, rm_J9_size, rm_J9_remove_f, rm_X2_become]; omega), by first | exact Nat.le_of_ble_eq_true rfl | (simp only [rm_X1_save_1, rm_J9_add_0, rm_J9_size, rm_J9_remove_f, rm_X2_become]; omega)⟩ dX1_save_46 (Nat.le_of_ble_eq_true rfl) rfl rfl) (fun _ H1_ hk_ hp_ hd_ => fr_selT (ws := [oC h ad sn hsh, oX (ad 1) 1 [.ref (ad 11), .int (nI L), .int stp, .int why], aI G (ad 11) 64 st, oX (ad 9) 11 [.int (mc + nI 1), .ref ea, .int (nI (6 - 1))], aO G ea 10 (va_up (va_cpy ef ef 1 0 (6 - 1 - 0)) (6 - 1) none), oX o_ 1 [.ref oa, .int (nI L), .int stp, .int why], aI G oa 64 st]) (wc := [oX (ad 9) 11 [.int (mc + nI 1), .ref ea, .int (nI (6 - 1))], aO G ea 10 (va_up (va_cpy ef ef 1 0 (6 - 1 - 0)) (6 - 1) none), oX o_ 1 [.ref oa, .int (nI L), .int stp, .int why]]) (ws' := [oC h ad sn hsh, oX (ad 1) 1 [.ref (ad 11), .int (nI L), .int stp, .int why], aI G (ad 11) 64 st, oX (ad 9) 11 [.int ((mc + nI 1) + nI 1), .ref ea, .int (nI ((6 - 1) + 1))], aO G ea 10 (va_up (va_up (va_cpy ef ef 1 0 (6 - 1 - 0)) (6 - 1) none) (6 - 1) (some o_)), oX o_ 1 [.ref oa, .int (nI L), .int stp, .int why], aI G oa 64 st]) (tl := ((svW G ys))) [3, 4, 5] [(false, 0), (false, 1), (false, 2), (true, 0), (true, 1), (true, 2), (false, 6)] rfl rfl (by decide) hP hD hk_ hF_4 hp_ hd_) (fun r_4 u_4 H locs h_4 hP hD hS => ?_)
    have hP : va_P G.1 vwCl ([oC h ad sn hsh, oX (ad 1) 1 [.ref (ad 11), .int (nI L), .int stp, .int why], aI G (ad 11) 64 st, oX (ad 9) 11 [.int ((mc + nI 1) + nI 1), .ref ea, .int (nI ((6 - 1) + 1))], aO G ea 10 (va_up (va_up (va_cpy ef ef 1 0 (6 - 1 - 0)) (6 - 1) none) (6 - 1) (some o_)), oX o_ 1 [.ref oa, .int (nI L), .int stp, .int why], aI G oa 64 st] ++ ((svW G ys))) _ := hP
    have hD : va_D A ([oC h ad sn hsh, oX (ad 1) 1 [.ref (ad 11), .int (nI L), .int stp, .int why], aI G (ad 11) 64 st, oX (ad 9) 11 [.int ((mc + nI 1) + nI 1), .ref ea, .int (nI ((6 - 1) + 1))], aO G ea 10 (va_up (va_up (va_cpy ef ef 1 0 (6 - 1 - 0)) (6 - 1) none) (6 - 1) (some o_)), oX o_ 1 [.ref oa, .int (nI L), .int stp, .int why], aI G oa 64 st] ++ ((svW G ys))) := hD
    have h_4 : r_4 = (bI true) := h_4
    rw [h_4]
    refine lv_pop hx hb dX1_save_49 rfl ?_
    have hP : va_P G.1 vwCl ([oC h ad sn hsh, oX (ad 1) 1 [.ref (ad 11), .int (nI L), .int stp, .int why], aI G (ad 11) 64 st, oX (ad 9) 11 [.int (mc + nI 1 + nI 1), .ref ea, .int (nI 6)], aO G ea 10 (va_up (va_up (va_cpy ef ef 1 0 (6 - 1 - 0)) (6 - 1) none) 5 (some o_)), oX o_ 1 [.ref oa, .int (nI L), .int stp, .int why], aI G oa 64 st] ++ ((svW G ys))) _ := hP
    have hD : va_D A ([oC h ad sn hsh, oX (ad 1) 1 [.ref (ad 11), .int (nI L), .int stp, .int why], aI G (ad 11) 64 st, oX (ad 9) 11 [.int (mc + nI 1 + nI 1), .ref ea, .int (nI 6)], aO G ea 10 (va_up (va_up (va_cpy ef ef 1 0 (6 - 1 - 0)) (6 - 1) none) 5 (some o_)), oX o_ 1 [.ref oa, .int (nI L), .int stp, .int why], aI G oa 64 st] ++ ((svW G ys))) := hD
    rw [hQQ]
    exact rt_v hx hb hr hlk ((())) dX1_save_50 hP hD hS (by first | exact Nat.le_of_ble_eq_true rfl | (simp only [rm_X1_save_1, rm_J9_size, rm_J9_remove_f, rm_X2_become, rm_J9_add_0]; omega) | omega) (by first | exact Nat.le_of_ble_eq_true rfl | (simp only [rm_X1_save_1, rm_J9_size, rm_J9_remove_f, rm_X2_become, rm_J9_add_0]; omega) | omega) trivial
def rm_X1_save : Room := rm_X1_save_v
/-- save, whatever is saved already -/
theorem t_X1_save (l : Launch) (G : GG) (b0 sz : Nat) (h : Nat) (ad : Nat → Nat) (sn : Value) (hsh : Int64) (L : Nat) (stp why : Int32) (st : Nat → Int32) (xs : List svR) (T : va_W) (hSV : SV G (ad 9) xs T) : CT l yX1_save cX1_save 2 none rm_X1_save G b0 [.ref h] ([oC h ad sn hsh, oX (ad 1) 1 [.ref (ad 11), .int (nI L), .int stp, .int why], aI G (ad 11) 64 st] ++ T) sz (Rv G (fun (u : va_W) => ∃ o a : Nat, SV G (ad 9) (svP xs (o, a, st, L, stp, why)) u) (fun (u : va_W) => ([oC h ad sn hsh, oX (ad 1) 1 [.ref (ad 11), .int (nI L), .int stp, .int why], aI G (ad 11) 64 st] ++ u))) := by
  rcases hSV with ⟨rfl, mc, rfl⟩ | ⟨mc, ea, ef, rfl, h1, h2, h3⟩
  · refine CT.imp_v (t_X1_save_v l G b0 sz h ad sn hsh L stp why st mc []) (fun u _ => ⟨_, ⟨u.2.1, u.2.2, Or.inr ⟨_, u.1, _, rfl, ?_, ?_, show (1 : Nat) ≤ 6 by decide⟩⟩, rfl⟩)
    · intro j x hj
      cases j with
      | zero => cases hj; exact va_up_self _ _ _
      | succ j => cases hj
    · intro j hj
      have hj : 1 ≤ j := hj
      exact va_up_ne _ _ (by omega)
  · by_cases c : xs.length < 6
    · refine CT.imp_v (t_X1_save_0 l G b0 sz h ad sn hsh L stp why st mc ea xs.length ef (svW G xs) c) (fun u _ => ⟨oX (ad 9) 11 [.int (mc + nI 1), .ref ea, .int (nI (xs.length + 1))] :: aO G ea 10 (va_up ef xs.length (some u.1)) :: shE (u.1, u.2, st, L, stp, why) :: shA G (u.1, u.2, st, L, stp, why) :: svW G xs, ⟨u.1, u.2, Or.inr ⟨mc + nI 1, ea, va_up ef xs.length (some u.1), ?_, ?_⟩⟩, rfl⟩)
      · rw [svP, if_neg (by omega)]
        rfl
      · rw [svP, if_neg (by omega)]
        have h9 := sv_0 (x := (u.1, u.2, st, L, stp, why)) h1 h2
        exact ⟨h9.1, h9.2, by show xs.length + 1 ≤ 6; omega⟩
    · have h6 : xs.length = 6 := by omega
      have hne : xs ≠ [] := by intro z; rw [z] at h6; cases h6
      obtain ⟨ys, o, rfl⟩ : ∃ ys o, xs = ys ++ [o] := ⟨xs.dropLast, xs.getLast hne, (List.dropLast_concat_getLast hne).symm⟩
      obtain ⟨o_, oa, of_, oL, os, ow⟩ := o
      have hl5 : ys.length = 5 := by rw [List.length_append] at h6; exact Nat.succ.inj h6
      have hT := sv_HT (G := G) h1 h2
      rw [svW_app] at hT
      have h0 : ef 0 = some o_ := by
        have := h1 5 (o_, oa, of_, oL, os, ow) (by rw [List.getElem?_append_right (by omega), hl5]; rfl)
        rw [h6] at this
        exact this
      rw [h6, svW_app]
      refine CT.imp_v (t_X1_save_1 l G b0 sz h ad sn hsh L stp why st mc os ow ea o_ oa oL of_ ef ys hT h0) (fun u _ => ⟨oX (ad 9) 11 [.int (mc + nI 1 + nI 1), .ref ea, .int (nI 6)] :: aO G ea 10 (va_up (va_up (va_cpy ef ef 1 0 (6 - 1 - 0)) (6 - 1) none) 5 (some o_)) :: shE (o_, oa, st, L, stp, why) :: shA G (o_, oa, st, L, stp, why) :: svW G ys, ⟨o_, oa, Or.inr ⟨mc + nI 1 + nI 1, ea, va_up (va_up (va_cpy ef ef 1 0 (6 - 1 - 0)) (6 - 1) none) 5 (some o_), ?_, ?_⟩⟩, rfl⟩)
      · rw [svP, if_pos h6, List.dropLast_concat]
        show _ = oX (ad 9) 11 [.int _, .ref ea, .int (nI (ys.length + 1))] :: _
        rw [hl5]
        rfl
      · rw [svP, if_pos h6, List.dropLast_concat]
        have h9 := sv_1 (x := (o_, oa, st, L, stp, why)) hl5 h1 h2
        exact ⟨h9.1, h9.2, by show ys.length + 1 ≤ 6; omega⟩
