/-! ===== the reference: works ===== -/
/-- where part k stands -/
def posK (ch : Nat → Nat) (len : Nat) : Nat → Nat
  | 0 => 0
  | k + 1 => (ptO ch len (posK ch len k)).2 + 1
def prF (ch : Nat → Nat) (len : Nat) : Nat → Nat → Nat → Bool × Nat × Nat
  | 0, i, m => (false, i, m)
  | f + 1, i, m => if (ptO ch len i).1 = true then (if sgB ch len (ptO ch len i).2 59 = true then prF ch len f (sgA ch len (ptO ch len i).2 59) (m + 1) else (decide (sgA ch len (ptO ch len i).2 59 = len), sgA ch len (ptO ch len i).2 59, m + 1)) else (false, (ptO ch len i).2, m)
/-- whether the text is works, where reading ended, how many parts -/
def prR (ch : Nat → Nat) (len : Nat) : Bool × Nat × Nat := prF ch len 61 0 0
def prI (ch : Nat → Nat) (len : Nat) (mo : Bool) (i m : Nat) : Prop := (mo = true ∧ (prF ch len (61 - m) i m = prR ch len ∧ i = posK ch len m ∧ 2 * m ≤ i)) ∨ (mo = false ∧ (decide (i = len), i, m) = prR ch len)
theorem pr_o {mo : Bool} {A B : Prop} (hj : (mo = true ∧ A) ∨ (mo = false ∧ B)) (c : mo = true) : A := by
  rcases hj with ⟨_, a⟩ | ⟨a, _⟩
  · exact a
  · exact absurd (c.symm.trans a) (by decide)
theorem pr_x {mo : Bool} {A B : Prop} (hj : (mo = true ∧ A) ∨ (mo = false ∧ B)) (c : mo = false) : B := by
  rcases hj with ⟨a, _⟩ | ⟨_, b⟩
  · exact absurd (c.symm.trans a) (by decide)
  · exact b
theorem pr_s {ch : Nat → Nat} {len i m : Nat} (h3 : m ≤ 30) : prF ch len (61 - m) i m = (if (ptO ch len i).1 = true then (if sgB ch len (ptO ch len i).2 59 = true then prF ch len (61 - (m + 1)) (sgA ch len (ptO ch len i).2 59) (m + 1) else (decide (sgA ch len (ptO ch len i).2 59 = len), sgA ch len (ptO ch len i).2 59, m + 1)) else (false, (ptO ch len i).2, m)) := by
  have : 61 - m = (61 - (m + 1)) + 1 := by omega
  rw [this]
  rfl
theorem pr_n {ch : Nat → Nat} {len i m : Nat} (hj : prF ch len (61 - m) i m = prR ch len ∧ i = posK ch len m ∧ 2 * m ≤ i) (h3 : m ≤ 30) (hi : i ≤ len) (ht : (ptO ch len i).1 = true) : prI ch len (sgB ch len (ptO ch len i).2 59) (sgA ch len (ptO ch len i).2 59) (m + 1) := by
  obtain ⟨h1, h2, h4⟩ := hj
  rw [pr_s h3, if_pos ht] at h1
  by_cases hs : sgB ch len (ptO ch len i).2 59 = true
  · rw [if_pos hs] at h1
    have e := sgA_t hs
    refine Or.inl ⟨hs, h1, ?_, ?_⟩
    · rw [e]; show _ = (ptO ch len (posK ch len m)).2 + 1; rw [← h2]
    · have := ptO_ge hi ht; omega
  · rw [if_neg hs] at h1
    exact Or.inr ⟨Bool.eq_false_iff.mpr hs, h1⟩
theorem pr_f {ch : Nat → Nat} {len i m : Nat} (hj : prF ch len (61 - m) i m = prR ch len ∧ i = posK ch len m ∧ 2 * m ≤ i) (h3 : m ≤ 30) (ht : (ptO ch len i).1 = false) : (false, (ptO ch len i).2, m) = prR ch len := by
  have h1 := hj.1
  rw [pr_s h3, if_neg (by rw [ht]; decide)] at h1
  exact h1
theorem prF_m {ch : Nat → Nat} {len : Nat} (hl : len ≤ 60) : ∀ (f i m : Nat), i ≤ len → 2 * m ≤ i → (prF ch len f i m).2.2 ≤ 30 ∧ (prF ch len f i m).2.1 ≤ len := by
  intro f
  induction f with
  | zero => intro i m h1 h2; exact ⟨by show m ≤ 30; omega, h1⟩
  | succ f ih =>
    intro i m h1 h2
    unfold prF
    have h3 := ptO_at (ch := ch) h1
    have h4 := sgA_le (ch := ch) (c := 59) h3
    by_cases h : (ptO ch len i).1 = true
    · rw [if_pos h]
      have h5 := ptO_lt h
      have h6 := ptO_ge h1 h
      by_cases hs : sgB ch len (ptO ch len i).2 59 = true
      · rw [if_pos hs]
        have e := sgA_t hs
        exact ih _ _ h4.1 (by omega)
      · rw [if_neg hs]
        exact ⟨by show m + 1 ≤ 30; omega, h4.1⟩
    · rw [if_neg h]
      exact ⟨by show m ≤ 30; omega, h3⟩
theorem prR_m {ch : Nat → Nat} {len : Nat} (hl : len ≤ 60) : (prR ch len).2.2 ≤ 30 ∧ (prR ch len).2.1 ≤ len := prF_m hl _ _ _ (Nat.zero_le _) (Nat.le_refl _)
theorem pd_same {ch : Nat → Nat} {len i k m : Nat} {le fi se le' fi' se' : Nat → Nat} {ti ti' : Nat → Int32} (h : smP m le fi se ti le' fi' se' ti') (hk : k < m) (hd : ptD ch len i k le fi se ti) : ptD ch len i k le' fi' se' ti' := by
  obtain ⟨e1, e2, e3, e4⟩ := h k hk
  unfold ptD at hd ⊢
  rw [e1, e2, e3, e4]
  exact hd
def ptAll (ch : Nat → Nat) (len m : Nat) (le fi se : Nat → Nat) (ti : Nat → Int32) : Prop := ∀ j, j < m → posK ch len j < len ∧ ptD ch len (posK ch len j) j le fi se ti
theorem pa_n {ch : Nat → Nat} {len i m : Nat} {le fi se le' fi' se' : Nat → Nat} {ti ti' : Nat → Int32} (hd : ptAll ch len m le fi se ti) (hi : i ≤ len) (hp : i = posK ch len m) (h : ptD ch len i m le' fi' se' ti' ∧ smP m le fi se ti le' fi' se' ti') : ptAll ch len (m + 1) le' fi' se' ti' := by
  intro j hj
  by_cases e : j < m
  · exact ⟨(hd j e).1, pd_same h.2 e (hd j e).2⟩
  · have : j = m := by omega
    rw [this, ← hp]
    have := ptO_lt h.1.1
    exact ⟨by omega, h.1⟩
def rm_X9_isWorks : Room := ({ frames := 5, cells := 0, slots := 0, locals := 126 } : Room)
set_option maxHeartbeats 400000 in
set_option maxRecDepth 100000 in
theorem t_X9_isWorks (l : Launch) (G : GG) (b0 sz : Nat) (h : Nat) (ad : Nat → Nat) (thr sts : Nat) (hs : Bool) (len at_ num many : Nat) (ch le fi se : Nat → Nat) (ti : Nat → Int32) (hle : len ≤ 60) (hch : ∀ j, j < len → ch j < 1000) : CT l yX9_isWorks cX9_isWorks 2 (some FieldType.boolean) (rm_X9_isWorks) G b0 [.ref h] [oM h ad thr sts hs len at_ num many, aI G (ad 4) 60 (nF ch), aI G (ad 11) 31 (nF le), aI G (ad 12) 31 (nF fi), aI G (ad 13) 31 (nF se), aI G (ad 14) 31 ti] sz (Ri G (fun (r_ : Int32) (u : Nat × (Nat → Nat) × (Nat → Nat) × (Nat → Nat) × (Nat → Int32)) => r_ = bI ((prR ch len).1) ∧ ((prR ch len).1 = true → ptAll ch len (prR ch len).2.2 u.2.1 u.2.2.1 u.2.2.2.1 u.2.2.2.2)) (fun (u : Nat × (Nat → Nat) × (Nat → Nat) × (Nat → Nat) × (Nat → Int32)) => [oM h ad thr sts hs len ((prR ch len).2.1) u.1 ((prR ch len).2.2), aI G (ad 4) 60 (nF ch), aI G (ad 11) 31 (nF u.2.1), aI G (ad 12) 31 (nF u.2.2.1), aI G (ad 13) 31 (nF u.2.2.2.1), aI G (ad 14) 31 u.2.2.2.2])) := by
  refine CT.go (by decide) (Nat.le_of_ble_eq_true rfl) (fun p e s m below meth c A ls AR QQ hx hb hr hlk hml hown hnm hts hE hA hAb hsz hP hD hS hl hQQ => ?_)
  have hK := hE.1
  have hown : s.vm.findClass RX9 = some m.cls := hown
  have hl : lv_has ls 2 [(0, .ref h)] := hl
  clear hsz
  refine lv_aload_n hx hb dX9_isWorks_0 rfl (lv_at hl 0 rfl) ?_
  refine lv_iconst (v := nI 0) hx hb dX9_isWorks_1 (by decide) ?_
  refine va_put (D := G.1) (ci := 8) (v := .int (nI 0)) (ty := .int) (C := RX9) (T := TX9) (N := 21) hx hb hts in_X9 tyX9 tyX9_ok nmX9 hown hK hP hD hS 0 rfl rfl 14 (by decide) (hts _ q1681) (fun _ h9 => h9) rfl (by decide +kernel) rfl rfl (Nat.le_of_ble_eq_true rfl) dX9_isWorks_2 (fun H locs hP hD hS => ?_)
  have hP : va_P G.1 vwCl [oM h ad thr sts hs len 0 num many, aI G (ad 4) 60 (nF ch), aI G (ad 11) 31 (nF le), aI G (ad 12) 31 (nF fi), aI G (ad 13) 31 (nF se), aI G (ad 14) 31 ti] _ := hP
  have hD : va_D A [oM h ad thr sts hs len 0 num many, aI G (ad 4) 60 (nF ch), aI G (ad 11) 31 (nF le), aI G (ad 12) 31 (nF fi), aI G (ad 13) 31 (nF se), aI G (ad 14) 31 ti] := hD
  refine lv_aload_n hx hb dX9_isWorks_5 rfl (lv_at hl 0 rfl) ?_
  refine lv_iconst (v := nI 0) hx hb dX9_isWorks_6 (by decide) ?_
  refine va_put (D := G.1) (ci := 8) (v := .int (nI 0)) (ty := .int) (C := RX9) (T := TX9) (N := 21) hx hb hts in_X9 tyX9 tyX9_ok nmX9 hown hK hP hD hS 0 rfl rfl 16 (by decide) (hts _ q1683) (fun _ h9 => h9) rfl (by decide +kernel) rfl rfl (Nat.le_of_ble_eq_true rfl) dX9_isWorks_7 (fun H locs hP hD hS => ?_)
  have hP : va_P G.1 vwCl [oM h ad thr sts hs len 0 num 0, aI G (ad 4) 60 (nF ch), aI G (ad 11) 31 (nF le), aI G (ad 12) 31 (nF fi), aI G (ad 13) 31 (nF se), aI G (ad 14) 31 ti] _ := hP
  have hD : va_D A [oM h ad thr sts hs len 0 num 0, aI G (ad 4) 60 (nF ch), aI G (ad 11) 31 (nF le), aI G (ad 12) 31 (nF fi), aI G (ad 13) 31 (nF se), aI G (ad 14) 31 ti] := hD
  refine lv_iconst (v := nI 1) hx hb dX9_isWorks_10 (by decide) ?_
  refine lv_istore_n (lv' := [(1, .int (nI 1)), (0, .ref h)]) hx hb dX9_isWorks_11 rfl hl (by decide) rfl (fun ls hl => ?_)
  have lp_12 : ∀ (n_12 : Nat) (nu i_ m_ : Nat) (le_ fi_ se_ : Nat → Nat) (ti_ : Nat → Int32) (mo : Bool), (i_ ≤ len) → (m_ ≤ 30) → (prI ch len mo i_ m_) → (ptAll ch len m_ le_ fi_ se_ ti_) → ((31 - m_) + (if mo = true then 1 else 0)) < n_12 → ∀ (H : Heap) (locs : List Loc) (ls : Array Slot), va_P G.1 vwCl [oM h ad thr sts hs len i_ nu m_, aI G (ad 4) 60 (nF ch), aI G (ad 11) 31 (nF le_), aI G (ad 12) 31 (nF fi_), aI G (ad 13) 31 (nF se_), aI G (ad 14) 31 ti_] H → va_D A [oM h ad thr sts hs len i_ nu m_, aI G (ad 4) 60 (nF ch), aI G (ad 11) 31 (nF le_), aI G (ad 12) 31 (nF fi_), aI G (ad 13) 31 (nF se_), aI G (ad 14) 31 ti_] → va_S A s.heap H locs → lv_has ls 2 [(0, .ref h), (1, .int (bI mo))] → W p l e (rm_X9_isWorks) s m AR below meth c H locs 0 0 QQ (F0 m 12 ls []) := by
    intro n_12
    induction n_12 with
    | zero => intro nu i_ m_ le_ fi_ se_ ti_ mo hi hm hj hd hn_; exact absurd hn_ (Nat.not_lt_zero _)
    | succ n_12 ih_12 =>
      intro nu i_ m_ le_ fi_ se_ ti_ mo hi hm hj hd hn_12 H locs ls hP hD hS hl
      refine lv_iload_n hx hb dX9_isWorks_12 rfl (lv_at hl 1 rfl) ?_
      refine B_if_eq (tgt := 45) hx hb dX9_isWorks_13 (by decide) (fun c_13 => ?_) (fun c_13 => ?_)
      · skip
        have hjx := pr_x hj c_13
        refine lv_aload_n hx hb dX9_isWorks_45 rfl (lv_at hl 0 rfl) ?_
        refine va_get (D := G.1) (ci := 8) (v := .int (nI i_)) (C := RX9) (T := TX9) (N := 21) hx hb hts in_X9 hown hK hP 0 rfl rfl 14 (by decide) (hts _ q1681) (fun _ h9 => h9) rfl dX9_isWorks_46 ?_
        refine lv_aload_n hx hb dX9_isWorks_49 rfl (lv_at hl 0 rfl) ?_
        refine va_get (D := G.1) (ci := 8) (v := .int (nI len)) (C := RX9) (T := TX9) (N := 21) hx hb hts in_X9 hown hK hP 0 rfl rfl 7 (by decide) (hts _ q1674) (fun _ h9 => h9) rfl dX9_isWorks_50 ?_
        refine N_icmp_ne (tgt := 60) hx hb dX9_isWorks_53 (by decide) (by omega) (by omega) (fun c_53 => ?_) (fun c_53 => ?_)
        · skip
          refine lv_iconst (v := nI 0) hx hb dX9_isWorks_60 (by decide) ?_
          have e_1 : (i_) = ((prR ch len).2.1) := by first | (have hz := pr_f hj1 hm c_20; rw [← hz]; done) | (rw [← hjx]; done)
          rw [e_1] at hP hD
          have e_2 : (m_) = ((prR ch len).2.2) := by first | (have hz := pr_f hj1 hm c_20; rw [← hz]; done) | (rw [← hjx]; done)
          rw [e_2] at hP hD
          have hP : va_P G.1 vwCl [oM h ad thr sts hs len ((prR ch len).2.1) (((nu, le_, fi_, se_, ti_)).1) ((prR ch len).2.2), aI G (ad 4) 60 (nF ch), aI G (ad 11) 31 (nF (((nu, le_, fi_, se_, ti_)).2.1)), aI G (ad 12) 31 (nF (((nu, le_, fi_, se_, ti_)).2.2.1)), aI G (ad 13) 31 (nF (((nu, le_, fi_, se_, ti_)).2.2.2.1)), aI G (ad 14) 31 (((nu, le_, fi_, se_, ti_)).2.2.2.2)] _ := hP
          have hD : va_D A [oM h ad thr sts hs len ((prR ch len).2.1) (((nu, le_, fi_, se_, ti_)).1) ((prR ch len).2.2), aI G (ad 4) 60 (nF ch), aI G (ad 11) 31 (nF (((nu, le_, fi_, se_, ti_)).2.1)), aI G (ad 12) 31 (nF (((nu, le_, fi_, se_, ti_)).2.2.1)), aI G (ad 13) 31 (nF (((nu, le_, fi_, se_, ti_)).2.2.2.1)), aI G (ad 14) 31 (((nu, le_, fi_, se_, ti_)).2.2.2.2)] := hD
          rw [hQQ]
          exact rt_z hx hb hr hlk (by first | exact bI_nar _ | rfl) ((nu, le_, fi_, se_, ti_)) dX9_isWorks_61 hP hD hS (by first | exact Nat.le_of_ble_eq_true rfl | (simp only [rm_X9_isWorks]; omega)) (by first | exact Nat.le_of_ble_eq_true rfl | (simp only [rm_X9_isWorks]; omega)) ⟨(by first | (have hz := pr_f hj1 hm c_20; rw [← hz]; first | done | rfl) | (rw [← hjx]; first | exact bI_of1 (decide_eq_true c_53) | exact bI_of0 (decide_eq_false c_53))), by first | (have hz := pr_f hj1 hm c_20; rw [← hz]; intro hf_; cases hf_; done) | (rw [← hjx]; exact fun _ => hd)⟩
        · skip
          refine lv_iconst (v := nI 1) hx hb dX9_isWorks_56 (by decide) ?_
          refine lv_goto (tgt := 61) hx hb dX9_isWorks_57 (by decide) ?_
          have e_3 : (i_) = ((prR ch len).2.1) := by first | (have hz := pr_f hj1 hm c_20; rw [← hz]; done) | (rw [← hjx]; done)
          rw [e_3] at hP hD
          have e_4 : (m_) = ((prR ch len).2.2) := by first | (have hz := pr_f hj1 hm c_20; rw [← hz]; done) | (rw [← hjx]; done)
          rw [e_4] at hP hD
          have hP : va_P G.1 vwCl [oM h ad thr sts hs len ((prR ch len).2.1) (((nu, le_, fi_, se_, ti_)).1) ((prR ch len).2.2), aI G (ad 4) 60 (nF ch), aI G (ad 11) 31 (nF (((nu, le_, fi_, se_, ti_)).2.1)), aI G (ad 12) 31 (nF (((nu, le_, fi_, se_, ti_)).2.2.1)), aI G (ad 13) 31 (nF (((nu, le_, fi_, se_, ti_)).2.2.2.1)), aI G (ad 14) 31 (((nu, le_, fi_, se_, ti_)).2.2.2.2)] _ := hP
          have hD : va_D A [oM h ad thr sts hs len ((prR ch len).2.1) (((nu, le_, fi_, se_, ti_)).1) ((prR ch len).2.2), aI G (ad 4) 60 (nF ch), aI G (ad 11) 31 (nF (((nu, le_, fi_, se_, ti_)).2.1)), aI G (ad 12) 31 (nF (((nu, le_, fi_, se_, ti_)).2.2.1)), aI G (ad 13) 31 (nF (((nu, le_, fi_, se_, ti_)).2.2.2.1)), aI G (ad 14) 31 (((nu, le_, fi_, se_, ti_)).2.2.2.2)] := hD
          rw [hQQ]
          exact rt_z hx hb hr hlk (by first | exact bI_nar _ | rfl) ((nu, le_, fi_, se_, ti_)) dX9_isWorks_61 hP hD hS (by first | exact Nat.le_of_ble_eq_true rfl | (simp only [rm_X9_isWorks]; omega)) (by first | exact Nat.le_of_ble_eq_true rfl | (simp only [rm_X9_isWorks]; omega)) ⟨(by first | (have hz := pr_f hj1 hm c_20; rw [← hz]; first | done | rfl) | (rw [← hjx]; first | exact bI_of1 (decide_eq_true c_53) | exact bI_of0 (decide_eq_false c_53))), by first | (have hz := pr_f hj1 hm c_20; rw [← hz]; intro hf_; cases hf_; done) | (rw [← hjx]; exact fun _ => hd)⟩
      · skip
        have hj1 := pr_o hj c_13
        rw [if_pos c_13] at hn_12
        have hj3 := hj1.2.2
        refine lv_aload_n hx hb dX9_isWorks_16 rfl (lv_at hl 0 rfl) ?_
        refine fin_i (ws' := (fun (u_5 : Nat × (Nat → Nat) × (Nat → Nat) × (Nat → Nat) × (Nat → Int32)) => [oM h ad thr sts hs len ((ptO ch len i_).2) u_5.1 m_, aI G (ad 4) 60 (nF ch), aI G (ad 11) 31 (nF u_5.2.1), aI G (ad 12) 31 (nF u_5.2.2.1), aI G (ad 13) 31 (nF u_5.2.2.2.1), aI G (ad 14) 31 u_5.2.2.2.2])) hA hS hP hD [0, 1, 2, 3, 4, 5] rfl [(true, 0), (true, 1), (true, 2), (true, 3), (true, 4), (true, 5)] (fun _ => rfl) (by decide) (run_V (As := []) (rest := []) (n9 := 0) hx hb hml hown hts hE hAb hl.1 hS hP hD [0, 1, 2, 3, 4, 5] rfl (by decide) (t_X9_textPart l G b0 _ h ad thr sts hs len i_ nu m_ ch le_ fi_ se_ ti_ (by omega) (by omega) (by exact hch) (by omega)) (lw_V q2073 q2075 qs96 q129 q2076) 0 rfl rfl ⟨rfl, by decide, by decide, by decide +kernel⟩ ⟨Nat.le_of_ble_eq_true rfl, Nat.le_of_ble_eq_true rfl⟩ ⟨by first | exact Nat.le_of_ble_eq_true rfl | (simp only [rm_X9_isWorks, rm_X9_textPart]; omega), by first | exact Nat.le_of_ble_eq_true rfl | (simp only [rm_X9_isWorks, rm_X9_textPart]; omega)⟩ dX9_isWorks_17 (Nat.le_of_ble_eq_true rfl) rfl rfl) (fun r_5 u_5 H locs h_5 hP hD hS => ?_)
        have hP : va_P G.1 vwCl [oM h ad thr sts hs len ((ptO ch len i_).2) u_5.1 m_, aI G (ad 4) 60 (nF ch), aI G (ad 11) 31 (nF u_5.2.1), aI G (ad 12) 31 (nF u_5.2.2.1), aI G (ad 13) 31 (nF u_5.2.2.2.1), aI G (ad 14) 31 u_5.2.2.2.2] _ := hP
        have hD : va_D A [oM h ad thr sts hs len ((ptO ch len i_).2) u_5.1 m_, aI G (ad 4) 60 (nF ch), aI G (ad 11) 31 (nF u_5.2.1), aI G (ad 12) 31 (nF u_5.2.2.1), aI G (ad 13) 31 (nF u_5.2.2.2.1), aI G (ad 14) 31 u_5.2.2.2.2] := hD
        obtain ⟨h_5, f_5⟩ := h_5
        have h_5 : r_5 = (bI ((ptO ch len i_).1)) := h_5
        try rw [h_5] at f_5
        have f_5 : ((ptO ch len i_).1 = true → ptD ch len i_ m_ u_5.2.1 u_5.2.2.1 u_5.2.2.2.1 u_5.2.2.2.2 ∧ smP m_ le_ fi_ se_ ti_ u_5.2.1 u_5.2.2.1 u_5.2.2.2.1 u_5.2.2.2.2) := f_5
        rw [h_5]
        refine B_if_ne (tgt := 25) hx hb dX9_isWorks_20 (by decide) (fun c_20 => ?_) (fun c_20 => ?_)
        · skip
          have hq1 := ptO_lt c_20
          have hq2 := ptO_at (ch := ch) hi
          refine lv_aload_n hx hb dX9_isWorks_25 rfl (lv_at hl 0 rfl) ?_
          refine lv_dup hx hb dX9_isWorks_26 rfl ?_
          refine va_get (D := G.1) (ci := 8) (v := .int (nI m_)) (C := RX9) (T := TX9) (N := 21) hx hb hts in_X9 hown hK hP 0 rfl rfl 16 (by decide) (hts _ q1683) (fun _ h9 => h9) rfl dX9_isWorks_27 ?_
          refine lv_iconst (v := nI 1) hx hb dX9_isWorks_30 (by decide) ?_
          refine N_iadd hx hb dX9_isWorks_31 ?_
          refine va_put (D := G.1) (ci := 8) (v := .int (nI (m_ + 1))) (ty := .int) (C := RX9) (T := TX9) (N := 21) hx hb hts in_X9 tyX9 tyX9_ok nmX9 hown hK hP hD hS 0 rfl rfl 16 (by decide) (hts _ q1683) (fun _ h9 => h9) rfl (by decide +kernel) rfl rfl (Nat.le_of_ble_eq_true rfl) dX9_isWorks_32 (fun H locs hP hD hS => ?_)
          have hP : va_P G.1 vwCl [oM h ad thr sts hs len ((ptO ch len i_).2) u_5.1 (m_ + 1), aI G (ad 4) 60 (nF ch), aI G (ad 11) 31 (nF u_5.2.1), aI G (ad 12) 31 (nF u_5.2.2.1), aI G (ad 13) 31 (nF u_5.2.2.2.1), aI G (ad 14) 31 u_5.2.2.2.2] _ := hP
          have hD : va_D A [oM h ad thr sts hs len ((ptO ch len i_).2) u_5.1 (m_ + 1), aI G (ad 4) 60 (nF ch), aI G (ad 11) 31 (nF u_5.2.1), aI G (ad 12) 31 (nF u_5.2.2.1), aI G (ad 13) 31 (nF u_5.2.2.2.1), aI G (ad 14) 31 u_5.2.2.2.2] := hD
          refine lv_aload_n hx hb dX9_isWorks_35 rfl (lv_at hl 0 rfl) ?_
          refine lv_bipush (v := nI 59) hx hb dX9_isWorks_36 (by decide) ?_
          refine fin_i (ws' := (fun (_ : Unit) => [oM h ad thr sts hs len (sgA ch len ((ptO ch len i_).2) 59) u_5.1 (m_ + 1), aI G (ad 4) 60 (nF ch), aI G (ad 11) 31 (nF u_5.2.1), aI G (ad 12) 31 (nF u_5.2.2.1), aI G (ad 13) 31 (nF u_5.2.2.2.1), aI G (ad 14) 31 u_5.2.2.2.2])) hA hS hP hD [0, 1] rfl [(true, 0), (true, 1), (false, 2), (false, 3), (false, 4), (false, 5)] (fun _ => rfl) (by decide) (run_V (As := [.int (nI 59)]) (rest := []) (n9 := 1) hx hb hml hown hts hE hAb hl.1 hS hP hD [0, 1] rfl (by decide) (t_X9_sign l G b0 _ h ad thr sts hs len ((ptO ch len i_).2) u_5.1 (m_ + 1) ch 59 (by omega) (by omega) (by exact hch) (by omega)) (lw_V q2089 q2091 qs100 q129 q2092) 0 rfl rfl ⟨rfl, by decide, by decide, by decide +kernel⟩ ⟨Nat.le_of_ble_eq_true rfl, Nat.le_of_ble_eq_true rfl⟩ ⟨by first | exact Nat.le_of_ble_eq_true rfl | (simp only [rm_X9_isWorks, rm_X9_sign]; omega), by first | exact Nat.le_of_ble_eq_true rfl | (simp only [rm_X9_isWorks, rm_X9_sign]; omega)⟩ dX9_isWorks_38 (Nat.le_of_ble_eq_true rfl) rfl rfl) (fun r_6 u_6 H locs h_6 hP hD hS => ?_)
          have hP : va_P G.1 vwCl [oM h ad thr sts hs len (sgA ch len ((ptO ch len i_).2) 59) u_5.1 (m_ + 1), aI G (ad 4) 60 (nF ch), aI G (ad 11) 31 (nF u_5.2.1), aI G (ad 12) 31 (nF u_5.2.2.1), aI G (ad 13) 31 (nF u_5.2.2.2.1), aI G (ad 14) 31 u_5.2.2.2.2] _ := hP
          have hD : va_D A [oM h ad thr sts hs len (sgA ch len ((ptO ch len i_).2) 59) u_5.1 (m_ + 1), aI G (ad 4) 60 (nF ch), aI G (ad 11) 31 (nF u_5.2.1), aI G (ad 12) 31 (nF u_5.2.2.1), aI G (ad 13) 31 (nF u_5.2.2.2.1), aI G (ad 14) 31 u_5.2.2.2.2] := hD
          have h_6 : r_6 = (bI (sgB ch len ((ptO ch len i_).2) 59)) := h_6
          rw [h_6]
          refine lv_istore_n (lv' := [(1, .int (bI (sgB ch len ((ptO ch len i_).2) 59))), (0, .ref h)]) hx hb dX9_isWorks_41 rfl hl (by decide) rfl (fun ls hl => ?_)
          refine lv_goto (tgt := 12) hx hb dX9_isWorks_42 (by decide) ?_
          have hl : lv_has ls 2 [(0, .ref h), (1, .int (bI (sgB ch len ((ptO ch len i_).2) 59)))] := lv_sub hl [1, 0] rfl
          exact ih_12 u_5.1 (sgA ch len ((ptO ch len i_).2) 59) (m_ + 1) u_5.2.1 u_5.2.2.1 u_5.2.2.2.1 u_5.2.2.2.2 (sgB ch len ((ptO ch len i_).2) 59) (by exact (sgA_le (ptO_at hi)).1) (by omega) (by exact pr_n hj1 hm hi c_20) (by exact pa_n hd hi hj1.2.1 (f_5 c_20)) (by split <;> omega) _ _ _ hP hD hS hl
        · skip
          refine lv_iconst (v := nI 0) hx hb dX9_isWorks_23 (by decide) ?_
          have e_7 : ((ptO ch len i_).2) = ((prR ch len).2.1) := by first | (have hz := pr_f hj1 hm c_20; rw [← hz]; done) | (rw [← hjx]; done)
          rw [e_7] at hP hD
          have e_8 : (m_) = ((prR ch len).2.2) := by first | (have hz := pr_f hj1 hm c_20; rw [← hz]; done) | (rw [← hjx]; done)
          rw [e_8] at hP hD
          have hP : va_P G.1 vwCl [oM h ad thr sts hs len ((prR ch len).2.1) (((u_5.1, u_5.2.1, u_5.2.2.1, u_5.2.2.2.1, u_5.2.2.2.2)).1) ((prR ch len).2.2), aI G (ad 4) 60 (nF ch), aI G (ad 11) 31 (nF (((u_5.1, u_5.2.1, u_5.2.2.1, u_5.2.2.2.1, u_5.2.2.2.2)).2.1)), aI G (ad 12) 31 (nF (((u_5.1, u_5.2.1, u_5.2.2.1, u_5.2.2.2.1, u_5.2.2.2.2)).2.2.1)), aI G (ad 13) 31 (nF (((u_5.1, u_5.2.1, u_5.2.2.1, u_5.2.2.2.1, u_5.2.2.2.2)).2.2.2.1)), aI G (ad 14) 31 (((u_5.1, u_5.2.1, u_5.2.2.1, u_5.2.2.2.1, u_5.2.2.2.2)).2.2.2.2)] _ := hP
          have hD : va_D A [oM h ad thr sts hs len ((prR ch len).2.1) (((u_5.1, u_5.2.1, u_5.2.2.1, u_5.2.2.2.1, u_5.2.2.2.2)).1) ((prR ch len).2.2), aI G (ad 4) 60 (nF ch), aI G (ad 11) 31 (nF (((u_5.1, u_5.2.1, u_5.2.2.1, u_5.2.2.2.1, u_5.2.2.2.2)).2.1)), aI G (ad 12) 31 (nF (((u_5.1, u_5.2.1, u_5.2.2.1, u_5.2.2.2.1, u_5.2.2.2.2)).2.2.1)), aI G (ad 13) 31 (nF (((u_5.1, u_5.2.1, u_5.2.2.1, u_5.2.2.2.1, u_5.2.2.2.2)).2.2.2.1)), aI G (ad 14) 31 (((u_5.1, u_5.2.1, u_5.2.2.1, u_5.2.2.2.1, u_5.2.2.2.2)).2.2.2.2)] := hD
          rw [hQQ]
          exact rt_z hx hb hr hlk (by first | exact bI_nar _ | rfl) ((u_5.1, u_5.2.1, u_5.2.2.1, u_5.2.2.2.1, u_5.2.2.2.2)) dX9_isWorks_24 hP hD hS (by first | exact Nat.le_of_ble_eq_true rfl | (simp only [rm_X9_isWorks]; omega)) (by first | exact Nat.le_of_ble_eq_true rfl | (simp only [rm_X9_isWorks]; omega)) ⟨(by first | (have hz := pr_f hj1 hm c_20; rw [← hz]; first | done | rfl) | (rw [← hjx]; first | exact bI_of1 (decide_eq_true c_53) | exact bI_of0 (decide_eq_false c_53))), by first | (have hz := pr_f hj1 hm c_20; rw [← hz]; intro hf_; cases hf_; done) | (rw [← hjx]; exact fun _ => hd)⟩
  have hl : lv_has ls 2 [(0, .ref h), (1, .int (nI 1))] := lv_sub hl [1, 0] rfl
  have e_9 : (nI 1) = (bI true) := by rfl
  rw [e_9] at hl
  have hl : lv_has ls 2 [(0, .ref h), (1, .int (bI true))] := hl
  exact lp_12 _ num 0 0 le fi se ti true (by omega) (by omega) (by exact Or.inl ⟨rfl, rfl, rfl, Nat.le_refl _⟩) (by exact fun j hj => absurd hj (Nat.not_lt_zero j)) (Nat.lt_succ_self _) _ _ _ hP hD hS hl
def rm_X9_firstError : Room := ({ frames := 6, cells := 0, slots := 0, locals := 151 } : Room)
set_option maxHeartbeats 400000 in
set_option maxRecDepth 100000 in
theorem t_X9_firstError (l : Launch) (G : GG) (b0 sz : Nat) (h : Nat) (ad : Nat → Nat) (thr sts : Nat) (hs : Bool) (len at_ num many : Nat) (ch le fi se : Nat → Nat) (ti : Nat → Int32) (hle : len ≤ 60) (hch : ∀ j, j < len → ch j < 1000) : CT l yX9_firstError cX9_firstError 2 (some FieldType.int) (rm_X9_firstError) G b0 [.ref h] [oM h ad thr sts hs len at_ num many, aI G (ad 4) 60 (nF ch), aI G (ad 11) 31 (nF le), aI G (ad 12) 31 (nF fi), aI G (ad 13) 31 (nF se), aI G (ad 14) 31 ti] sz (Ri G (fun (r_ : Int32) (u : Nat × (Nat → Nat) × (Nat → Nat) × (Nat → Nat) × (Nat → Int32)) => r_ = nI ((prR ch len).2.1)) (fun (u : Nat × (Nat → Nat) × (Nat → Nat) × (Nat → Nat) × (Nat → Int32)) => [oM h ad 0 sts hs len ((prR ch len).2.1) u.1 ((prR ch len).2.2), aI G (ad 4) 60 (nF ch), aI G (ad 11) 31 (nF u.2.1), aI G (ad 12) 31 (nF u.2.2.1), aI G (ad 13) 31 (nF u.2.2.2.1), aI G (ad 14) 31 u.2.2.2.2])) := by
  refine CT.go (by decide) (Nat.le_of_ble_eq_true rfl) (fun p e s m below meth c A ls AR QQ hx hb hr hlk hml hown hnm hts hE hA hAb hsz hP hD hS hl hQQ => ?_)
  have hK := hE.1
  have hown : s.vm.findClass RX9 = some m.cls := hown
  have hl : lv_has ls 2 [(0, .ref h)] := hl
  clear hsz
  refine lv_aload_n hx hb dX9_firstError_0 rfl (lv_at hl 0 rfl) ?_
  refine lv_iconst (v := nI 0) hx hb dX9_firstError_1 (by decide) ?_
  refine va_put (D := G.1) (ci := 8) (v := .int (nI 0)) (ty := .int) (C := RX9) (T := TX9) (N := 21) hx hb hts in_X9 tyX9 tyX9_ok nmX9 hown hK hP hD hS 0 rfl rfl 0 (by decide) (hts _ q1667) (fun _ h9 => h9) rfl (by decide +kernel) rfl rfl (Nat.le_of_ble_eq_true rfl) dX9_firstError_2 (fun H locs hP hD hS => ?_)
  have hP : va_P G.1 vwCl [oM h ad 0 sts hs len at_ num many, aI G (ad 4) 60 (nF ch), aI G (ad 11) 31 (nF le), aI G (ad 12) 31 (nF fi), aI G (ad 13) 31 (nF se), aI G (ad 14) 31 ti] _ := hP
  have hD : va_D A [oM h ad 0 sts hs len at_ num many, aI G (ad 4) 60 (nF ch), aI G (ad 11) 31 (nF le), aI G (ad 12) 31 (nF fi), aI G (ad 13) 31 (nF se), aI G (ad 14) 31 ti] := hD
  refine lv_aload_n hx hb dX9_firstError_5 rfl (lv_at hl 0 rfl) ?_
  refine fin_i (ws' := (fun (u_1 : Nat × (Nat → Nat) × (Nat → Nat) × (Nat → Nat) × (Nat → Int32)) => [oM h ad 0 sts hs len ((prR ch len).2.1) u_1.1 ((prR ch len).2.2), aI G (ad 4) 60 (nF ch), aI G (ad 11) 31 (nF u_1.2.1), aI G (ad 12) 31 (nF u_1.2.2.1), aI G (ad 13) 31 (nF u_1.2.2.2.1), aI G (ad 14) 31 u_1.2.2.2.2])) hA hS hP hD [0, 1, 2, 3, 4, 5] rfl [(true, 0), (true, 1), (true, 2), (true, 3), (true, 4), (true, 5)] (fun _ => rfl) (by decide) (run_V (As := []) (rest := []) (n9 := 0) hx hb hml hown hts hE hAb hl.1 hS hP hD [0, 1, 2, 3, 4, 5] rfl (by decide) (t_X9_isWorks l G b0 _ h ad 0 sts hs len at_ num many ch le fi se ti (by omega) (by exact hch)) (lw_V q2069 q2071 qs95 q129 q2072) 0 rfl rfl ⟨rfl, by decide, by decide, by decide +kernel⟩ ⟨Nat.le_of_ble_eq_true rfl, Nat.le_of_ble_eq_true rfl⟩ ⟨by first | exact Nat.le_of_ble_eq_true rfl | (simp only [rm_X9_firstError, rm_X9_isWorks]; omega), by first | exact Nat.le_of_ble_eq_true rfl | (simp only [rm_X9_firstError, rm_X9_isWorks]; omega)⟩ dX9_firstError_6 (Nat.le_of_ble_eq_true rfl) rfl rfl) (fun r_1 u_1 H locs h_1 hP hD hS => ?_)
  have hP : va_P G.1 vwCl [oM h ad 0 sts hs len ((prR ch len).2.1) u_1.1 ((prR ch len).2.2), aI G (ad 4) 60 (nF ch), aI G (ad 11) 31 (nF u_1.2.1), aI G (ad 12) 31 (nF u_1.2.2.1), aI G (ad 13) 31 (nF u_1.2.2.2.1), aI G (ad 14) 31 u_1.2.2.2.2] _ := hP
  have hD : va_D A [oM h ad 0 sts hs len ((prR ch len).2.1) u_1.1 ((prR ch len).2.2), aI G (ad 4) 60 (nF ch), aI G (ad 11) 31 (nF u_1.2.1), aI G (ad 12) 31 (nF u_1.2.2.1), aI G (ad 13) 31 (nF u_1.2.2.2.1), aI G (ad 14) 31 u_1.2.2.2.2] := hD
  obtain ⟨h_1, f_1⟩ := h_1
  have h_1 : r_1 = (bI ((prR ch len).1)) := h_1
  try rw [h_1] at f_1
  have f_1 : ((prR ch len).1 = true → ptAll ch len (prR ch len).2.2 u_1.2.1 u_1.2.2.1 u_1.2.2.2.1 u_1.2.2.2.2) := f_1
  rw [h_1]
  refine lv_istore_n (lv' := [(1, .int (bI ((prR ch len).1))), (0, .ref h)]) hx hb dX9_firstError_9 rfl hl (by decide) rfl (fun ls hl => ?_)
  refine lv_aload_n hx hb dX9_firstError_10 rfl (lv_at hl 1 rfl) ?_
  refine va_get (D := G.1) (ci := 8) (v := .int (nI ((prR ch len).2.1))) (C := RX9) (T := TX9) (N := 21) hx hb hts in_X9 hown hK hP 0 rfl rfl 14 (by decide) (hts _ q1681) (fun _ h9 => h9) rfl dX9_firstError_11 ?_
  have hP : va_P G.1 vwCl [oM h ad 0 sts hs len ((prR ch len).2.1) (((u_1.1, u_1.2.1, u_1.2.2.1, u_1.2.2.2.1, u_1.2.2.2.2)).1) ((prR ch len).2.2), aI G (ad 4) 60 (nF ch), aI G (ad 11) 31 (nF (((u_1.1, u_1.2.1, u_1.2.2.1, u_1.2.2.2.1, u_1.2.2.2.2)).2.1)), aI G (ad 12) 31 (nF (((u_1.1, u_1.2.1, u_1.2.2.1, u_1.2.2.2.1, u_1.2.2.2.2)).2.2.1)), aI G (ad 13) 31 (nF (((u_1.1, u_1.2.1, u_1.2.2.1, u_1.2.2.2.1, u_1.2.2.2.2)).2.2.2.1)), aI G (ad 14) 31 (((u_1.1, u_1.2.1, u_1.2.2.1, u_1.2.2.2.1, u_1.2.2.2.2)).2.2.2.2)] _ := hP
  have hD : va_D A [oM h ad 0 sts hs len ((prR ch len).2.1) (((u_1.1, u_1.2.1, u_1.2.2.1, u_1.2.2.2.1, u_1.2.2.2.2)).1) ((prR ch len).2.2), aI G (ad 4) 60 (nF ch), aI G (ad 11) 31 (nF (((u_1.1, u_1.2.1, u_1.2.2.1, u_1.2.2.2.1, u_1.2.2.2.2)).2.1)), aI G (ad 12) 31 (nF (((u_1.1, u_1.2.1, u_1.2.2.1, u_1.2.2.2.1, u_1.2.2.2.2)).2.2.1)), aI G (ad 13) 31 (nF (((u_1.1, u_1.2.1, u_1.2.2.1, u_1.2.2.2.1, u_1.2.2.2.2)).2.2.2.1)), aI G (ad 14) 31 (((u_1.1, u_1.2.1, u_1.2.2.1, u_1.2.2.2.1, u_1.2.2.2.2)).2.2.2.2)] := hD
  rw [hQQ]
  exact rt_i hx hb hr hlk  ((u_1.1, u_1.2.1, u_1.2.2.1, u_1.2.2.2.1, u_1.2.2.2.2)) dX9_firstError_14 hP hD hS (by first | exact Nat.le_of_ble_eq_true rfl | (simp only [rm_X9_firstError]; omega)) (by first | exact Nat.le_of_ble_eq_true rfl | (simp only [rm_X9_firstError]; omega)) (by rfl)
