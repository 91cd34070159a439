/-! ===== the law: works, the digest ===== -/
theorem pr_ok {ch : Nat → Nat} {len : Nat} : ∀ f i m, i ≤ len → (prF ch len f i m).1 = true → i = posK ch len m → ∀ k, m ≤ k → k < (prF ch len f i m).2.2 → (ptO ch len (posK ch len k)).1 = true ∧ posK ch len k < len := by
  intro f
  induction f with
  | zero => intro i m _ h; cases h
  | succ f ih =>
    intro i m hl h hi k hk hk2
    unfold prF at h hk2
    by_cases c : (ptO ch len i).1 = true
    · rw [if_pos c] at h hk2
      have h0 := ptO_lt c
      by_cases d : sgB ch len (ptO ch len i).2 59 = true
      · rw [if_pos d] at h hk2
        by_cases e : k = m
        · rw [e, ← hi]
          exact ⟨c, by omega⟩
        · exact ih _ (m + 1) (sgA_le (ptO_at hl)).1 h (by rw [sgA_t d, hi]; rfl) k (by omega) hk2
      · rw [if_neg d] at h hk2
        have hk2 : k < m + 1 := hk2
        have e : k = m := by omega
        rw [e, ← hi]
        exact ⟨c, by omega⟩
    · rw [if_neg c] at h
      cases h
theorem cntN_c {p q : Nat → Bool} {n : Nat} (h : ∀ k, k < n → p k = q k) : cntN p n = cntN q n := by
  induction n with
  | zero => rfl
  | succ n ih =>
    show cntN p n + (if p n = true then 1 else 0) = cntN q n + (if q n = true then 1 else 0)
    rw [ih (fun k hk => h k (by omega)), h n (by omega)]
theorem allB_c {p q : Nat → Bool} {n : Nat} (h : ∀ k, k < n → p k = q k) : allB p n = allB q n := by
  rw [Bool.eq_iff_iff, allB_iff, allB_iff]
  exact ⟨fun z k hk => by rw [← h k hk]; exact z k hk, fun z k hk => by rw [h k hk]; exact z k hk⟩
def MW (L : Nat) (f g : Nat → Int32) : Prop := (∀ k, k < 64 → f k = g k) ∧ (∀ k, k < 64 → isSh (g k) = true) ∧ g 64 = nI L ∧ 1 ≤ L ∧ L ≤ 3
theorem MW.fill {L : Nat} {f g F F' : Nat → Int32} (h : MW L f g) (h1 : ∀ k, k < 64 → F k = F' k) (h2 : ∀ k, k < 64 → isSh (F' k) = true) : MW L F (fillTo 64 F' g) :=
  ⟨fun k hk => by rw [fill_lt hk]; exact h1 k hk, fun k hk => by rw [fill_lt hk]; exact h2 k hk, by rw [fill_ge (Nat.le_refl _)]; exact h.2.2.1, h.2.2.2⟩
theorem upd_c {f g : Nat → Int32} {a : Nat} {v : Int32} (h : ∀ k, k < 64 → f k = g k) : ∀ k, k < 64 → upd f a v k = upd g a v k := by
  intro k hk
  unfold upd
  by_cases e : k = a
  · rw [if_pos e, if_pos e]
  · rw [if_neg e, if_neg e, h k hk]
theorem crm_c9 {L : Nat} {t : Int32} {f g : Nat → Int32} {k : Nat} (h : f k = g k) : crmB L t f k = crmB L t g k := by
  unfold crmB
  rw [h]
theorem drp_c {L : Nat} {t : Int32} {f g : Nat → Int32} (h : ∀ k, k < 64 → f k = g k) : ∀ k, k < 64 → drpA L t f k = drpA L t g k := by
  intro k hk
  unfold drpA
  rw [crm_c9 (h k hk), h k hk]
theorem step_w {ch : Nat → Nat} {len i L : Nat} {f g : Nat → Int32} (h : MW L f g) (ho : (ptO ch len i).1 = true) (hi : i < len) : (cdP ch len i L f).1 = (doP ch len i L g).1 ∧ (cdP ch len i L f).2.1 = (doP ch len i L g).2.1 ∧ MW (doP ch len i L g).2.1 (cdP ch len i L f).2.2 (doP ch len i L g).2.2 := by
  obtain ⟨m1, m2, m3, m4, m5⟩ := h
  have h : MW L f g := ⟨m1, m2, m3, m4, m5⟩
  have hc := celR_b (ch := ch) (len := len) (i := i + 1) (by omega)
  unfold cdP doP cdR doR
  by_cases c1 : ch i = 100
  · rw [if_pos c1, if_pos c1]
    have hA : ptA ch len i = (celR ch len (i + 1)).2.2.1 := by
      unfold ptA
      rw [if_neg (by omega), if_neg (by omega)]
    have e := join_congr L m5 _ _ (upd_c (a := 8 * ptA ch len i + (celR ch len (i + 1)).2.2.2) (v := asgV ch len (decide (ch i = 100)) (i + 1)) (split_congr m1 L m5))
    have eb : allB (shsB (joinP L (upd (splitP f L) (8 * ptA ch len i + (celR ch len (i + 1)).2.2.2) (asgV ch len (decide (ch i = 100)) (i + 1))))) 64 = allB (shsB (joinP L (upd (splitP g L) (8 * ptA ch len i + (celR ch len (i + 1)).2.2.2) (asgV ch len (decide (ch i = 100)) (i + 1))))) 64 := allB_c (fun k hk => congrArg isSh (e k hk))
    rw [eb]
    by_cases b : allB (shsB (joinP L (upd (splitP g L) (8 * ptA ch len i + (celR ch len (i + 1)).2.2.2) (asgV ch len (decide (ch i = 100)) (i + 1))))) 64 = true
    · rw [if_pos b, if_pos b]
      exact ⟨rfl, rfl, h.fill e (allB_sh b)⟩
    · rw [if_neg b, if_neg b]
      exact ⟨rfl, rfl, h⟩
  · rw [if_neg c1, if_neg c1]
    by_cases c2 : ch i = 108
    · rw [if_pos c2, if_pos c2]
      have ha := ptA_l hi ho c2
      have n : ∀ k, ¬ k = 64 → upd g 64 (nI (ptA ch len i)) k = g k := fun k hk => by
        unfold upd
        exact if_neg hk
      exact ⟨rfl, rfl, fun k hk => (m1 k hk).trans (n k (by omega)).symm, fun k hk => (congrArg isSh (n k (by omega))).trans (m2 k hk), (if_pos rfl : (if 64 = 64 then nI (ptA ch len i) else g 64) = nI (ptA ch len i)), ha.1, ha.2⟩
    · rw [if_neg c2, if_neg c2]
      by_cases c3 : ch i = 109
      · rw [if_pos c3, if_pos c3]
        exact ⟨rfl, rfl, h.fill (fun k hk => m1 _ (turnIx_lt hk)) (turn_sh m2)⟩
      · rw [if_neg c3, if_neg c3]
        by_cases c4 : ch i = 112
        · rw [if_pos c4, if_pos c4]
          have hA : ptA ch len i = (celR ch len (i + 1)).2.2.1 := by
            unfold ptA
            rw [if_neg (by omega), if_neg (by omega)]
          have hv : isSh (asgV ch len (decide (ch i = 100)) (i + 1)) = true := by
            rw [show decide (ch i = 100) = false from decide_eq_false c1]
            have e0 : asgV ch len false (i + 1) = nI (asgN ch len false (i + 1)).2.1 := rfl
            rw [e0]
            have hn : (asgN ch len false (i + 1)).2.1 ≤ 255 := (asgN_at (by omega)).2
            show inB _ (nI 0) (nI 255) = true
            rw [inB_nat (by omega) (by decide) (by decide)]
            exact decide_eq_true (by omega)
          have n : ∀ k, ¬ k = 8 * ptA ch len i + (celR ch len (i + 1)).2.2.2 → upd g (8 * ptA ch len i + (celR ch len (i + 1)).2.2.2) (asgV ch len (decide (ch i = 100)) (i + 1)) k = g k := fun k hk => by
            unfold upd
            exact if_neg hk
          refine ⟨rfl, rfl, upd_c m1, fun k hk => ?_, (n 64 (by omega)).trans m3, m4, m5⟩
          show isSh (upd g _ _ k) = true
          unfold upd
          split
          · exact hv
          · exact m2 k hk
        · rw [if_neg c4, if_neg c4]
          by_cases c5 : ch i = 114
          · rw [if_pos c5, if_pos c5]
            exact ⟨rfl, rfl, h.fill (fun k hk => m1 _ (turnIx_lt hk)) (turn_sh m2)⟩
          · rw [if_neg c5, if_neg c5]
            by_cases c6 : ch i = 116
            · rw [if_pos c6, if_pos c6]
              have es := split_congr m1 L m5
              have ec : cntN (crmB L (nI (ptA ch len i)) (splitP f L)) 64 = cntN (crmB L (nI (ptA ch len i)) (splitP g L)) 64 := cntN_c (fun k hk => crm_c9 (es k hk))
              rw [ec, ← e_cnt]
              have hle := cntN_le (crmB L (nI (ptA ch len i)) (splitP g L)) 64
              by_cases z : 0 < cntN (crmB L (nI (ptA ch len i)) (splitP g L)) 64
              · rw [if_pos z, if_neg (nI_ne z (by omega))]
                exact ⟨rfl, rfl, h.fill (fun k hk => congrArg clampI (join_congr L m5 _ _ (drp_c es) k hk)) (fun k _ => sh_clm _ k)⟩
              · have z0 : cntN (crmB L (nI (ptA ch len i)) (splitP g L)) 64 = 0 := by omega
                rw [if_neg z, z0, if_pos (show nI 0 = 0 from rfl)]
                exact ⟨rfl, rfl, h⟩
            · rw [if_neg c6, if_neg c6]
              exact ⟨rfl, rfl, h.fill (fun k hk => by show nI 255 - f k = nI 255 - g k; rw [m1 k hk]) (inv_sh m2)⟩
theorem cw_wk {ch : Nat → Nat} {len : Nat} : ∀ n k L f g, MW L f g → (∀ j, k ≤ j → j < k + n → (ptO ch len (posK ch len j)).1 = true ∧ posK ch len j < len) → (cwP ch len n k L f).1 = (wkP ch len n k L g).1 ∧ (cwP ch len n k L f).2.1 = (wkP ch len n k L g).2.1 ∧ (cwP ch len n k L f).2.2.1 = (wkP ch len n k L g).2.2.1 ∧ MW (wkP ch len n k L g).2.2.1 (cwP ch len n k L f).2.2.2 (wkP ch len n k L g).2.2.2 ∧ (wkP ch len n k L g).1 ≤ k + n := by
  intro n
  induction n with
  | zero => intro k L f g h _; exact ⟨rfl, rfl, rfl, h, Nat.le_refl _⟩
  | succ n ih =>
    intro k L f g h hk
    obtain ⟨o1, o2⟩ := hk k (Nat.le_refl _) (by omega)
    obtain ⟨e1, e2, e3⟩ := step_w h o1 o2
    unfold cwP wkP
    rw [e1]
    by_cases c : (doP ch len (posK ch len k) L g).1 = 0
    · rw [if_pos c, if_pos c, e2]
      obtain ⟨a1, a2, a3, a4, a5⟩ := ih (k + 1) _ _ _ e3 (fun j hj hj2 => hk j (by omega) (by omega))
      exact ⟨a1, a2, a3, a4, by omega⟩
    · rw [if_neg c, if_neg c]
      exact ⟨rfl, rfl, e2, e3, Nat.le_add_right _ _⟩
theorem wkS_lt {w : Nat × Nat × Nat × (Nat → Int32)} {j : Nat} (h : j < 65) : wkS w j = w.2.2.2 j := by
  unfold wkS upd
  rw [if_neg (by omega), if_neg (by omega), if_neg (by omega)]
theorem wkS_5 {w : Nat × Nat × Nat × (Nat → Int32)} : wkS w 65 = nI (if 0 < w.2.1 then 1 else 0) ∧ wkS w 66 = nI (if 0 < w.2.1 then w.1 else 0) ∧ wkS w 67 = nI w.2.1 := ⟨rfl, rfl, rfl⟩
theorem e_wk {L len : Nat} {ch : Nat → Nat} {st : Nat → Int32} {stp why : Int32} (h : RS st L stp why st) (hle : len ≤ 60) (hpr : (prR ch len).1 = true) : (cwR ch len L st).1 = (wkR ch len L st).1 ∧ RS (cwR ch len L st).2.2.2 (cwR ch len L st).2.2.1 (if (cwR ch len L st).2.1 = 0 then (-1) else nI (cwR ch len L st).1) (nI (cwR ch len L st).2.1) (wkS (wkR ch len L st)) := by
  have hm := prR_m (ch := ch) hle
  obtain ⟨a1, a2, a3, a4, a5⟩ := cw_wk (ch := ch) (len := len) (prR ch len).2.2 0 L st st ⟨fun _ _ => rfl, h.2.2.2.2, h.2.2.1, h.2.1⟩ (fun j _ hj2 => pr_ok 61 0 0 (Nat.zero_le _) hpr rfl j (Nat.zero_le _) (by show j < (prR ch len).2.2; omega))
  have b1 : (cwR ch len L st).1 = (wkR ch len L st).1 := a1
  have b2 : (cwR ch len L st).2.1 = (wkR ch len L st).2.1 := a2
  have b3 : (cwR ch len L st).2.2.1 = (wkR ch len L st).2.2.1 := a3
  have b4 : MW (wkR ch len L st).2.2.1 (cwR ch len L st).2.2.2 (wkR ch len L st).2.2.2 := a4
  have b5 : (wkR ch len L st).1 ≤ 0 + (prR ch len).2.2 := a5
  obtain ⟨m1, m2, m3, m4, m5⟩ := b4
  refine ⟨b1, ?_⟩
  rw [b1, b2, b3]
  refine ⟨fun k hk => by rw [wkS_lt (by omega)]; exact m1 k hk, ⟨m4, m5⟩, by rw [wkS_lt (by omega)]; exact m3, ?_, fun k hk => by rw [wkS_lt (by omega)]; exact m2 k hk⟩
  obtain ⟨c1, c2, c3⟩ := wkS_5 (w := wkR ch len L st)
  rw [c1, c2, c3]
  by_cases z : (wkR ch len L st).2.1 = 0
  · rw [if_pos z, if_neg (show ¬ 0 < (wkR ch len L st).2.1 by omega)]
    exact Or.inl ⟨rfl, rfl⟩
  · rw [if_neg z, if_pos (show 0 < (wkR ch len L st).2.1 by omega), if_pos (show 0 < (wkR ch len L st).2.1 by omega)]
    refine Or.inr ⟨fun e => ?_, rfl, rfl, rfl⟩
    have := congrArg Int32.toInt e
    rw [nI_toInt (by omega)] at this
    have h1 : ((-1 : Int32)).toInt = -1 := rfl
    rw [h1] at this
    omega
theorem itJ_c {F F' : Nat → Int64 → Int64} {n : Nat} (h : ∀ k, k < n → ∀ x, F k x = F' k x) : ∀ x, itJ F n x = itJ F' n x := by
  induction n with
  | zero => intro x; rfl
  | succ n ih =>
    intro x
    show F n (itJ F n x) = F' n (itJ F' n x)
    rw [ih (fun k hk => h k (by omega)), h n (by omega)]
theorem dg_y {L sts : Nat} {st : Nat → Int32} (h1 : 1 ≤ L) (h3 : L ≤ 3) : ncY st L sts = dgY st L sts := by
  unfold ncY dgY
  have e1 : ncX st L sts = dgX st L sts := by
    unfold ncX dgX
    rw [e_run h1 h3]
  have e2 : ∀ x, itJ (ncA st L) 64 x = itJ (mcA st L) 64 x := itJ_c (fun k hk x => by
    unfold ncA mcA
    rw [e_nm h1 h3 (by omega) (by omega), show 8 * (k / 8) + k % 8 = k by omega]
    rfl)
  have e3 : ∀ x, itJ (ncC st L) 9 x = itJ (mcC st L) 9 x := itJ_c (fun k hk x => by
    unfold ncC mcC
    rw [e_cnt, e_fa h1 h3])
  rw [e1, e2, e3]
theorem e_dg {L sts len : Nat} {st : Nat → Int32} {stp why : Int32} (h : RS st L stp why st) : ncV st L sts stp why len = dgV st L sts len := by
  have hz : ncQ st L sts stp = dgZ st L sts := by
    unfold ncQ dgZ ncZ
    rw [dg_y h.2.1.1 h.2.1.2]
    show mxJ (mxJ (mxJ (mxJ (itJ (dgO (splitP st L) L) 64 (dgY st L sts)) (nI (lenC (splitP st 1) 1 0)).toInt64) (nI (lenC (splitP st 2) 2 0)).toInt64) (nI (lenC (splitP st 3) 3 0)).toInt64) _ = _
    congr 1
    by_cases c : stp = (-1)
    · rcases h.2.2.2.1 with ⟨_, b⟩ | ⟨a, _⟩
      · rw [if_pos c, b]; rfl
      · exact absurd c a
    · rw [if_neg c, (rs_on h c).1]; rfl
  have hw : ncW st L sts stp why = dgW st L sts := by
    unfold ncW dgW
    by_cases c : stp = (-1)
    · rw [if_pos c, if_neg (rs_off h c), hz]
    · obtain ⟨a, b, d⟩ := rs_on h c
      rw [if_neg c, if_pos a, hz, b, d]
  unfold ncV dgV
  rw [hw]
