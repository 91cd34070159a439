/-! ===== the reference: splitting, joining, costs ===== -/
theorem dm1_neg {i : Nat} (h : i < 1000) (hn : nI i - nI 1 < 0) : i = 0 := by
  rcases Nat.eq_zero_or_pos i with z | z
  · exact z
  · rw [pk_sub z] at hn
    exact absurd hn (nI_pos (by omega))
theorem dm1_pos {i : Nat} (hn : ¬ nI i - nI 1 < 0) : 1 ≤ i := by
  rcases Nat.eq_zero_or_pos i with z | z
  · subst z
    exact absurd (by decide) hn
  · exact z
theorem cntB_and (a b : Bool) : (if a = true then (if b = true then true else false) else false) = (a && b) := by cases a <;> cases b <;> rfl
/-- all of the first k -/
def allB (p : Nat → Bool) : Nat → Bool
  | 0 => true
  | k + 1 => allB p k && p k
def shsB (f : Nat → Int32) : Nat → Bool := fun k => isSh (f k)
def rm_X9_splitLine : Room := ({ frames := 0, cells := 0, slots := 0, locals := 0 } : Room)
set_option maxHeartbeats 400000 in
set_option maxRecDepth 100000 in
theorem t_X9_splitLine (l : Launch) (G : GG) (b0 sz : Nat) (h : Nat) (ad : Nat → Nat) (thr sts : Nat) (hs : Bool) (len at_ num many : Nat) (pa li : Nat → Int32) (o t n : Nat) (ht : t = 1 ∨ t = 8) (hn : n = 8 ∨ n = 4 ∨ n = 2) (ho : (t = 1 → o + n ≤ 64) ∧ (t = 8 → o + 8 * n ≤ 71)) : CT l yX9_splitLine cX9_splitLine 7 none (rm_X9_splitLine) G b0 [.ref h, .int (nI o), .int (nI t), .int (nI n)] [oM h ad thr sts hs len at_ num many, aI G (ad 5) 64 pa, aI G (ad 7) 8 li] sz (Rv G (fun (u : Nat → Int32) => True) (fun (u : Nat → Int32) => [oM h ad thr sts hs len at_ num many, aI G (ad 5) 64 (spO pa o t n), aI G (ad 7) 8 u])) := by
  refine CT.go (by decide) (Nat.le_of_ble_eq_true rfl) (fun p e s m below meth c A ls AR QQ hx hb hr hlk hml hown hnm hts hE hA hAb hsz hP hD hS hl hQQ => ?_)
  have hK := hE.1
  have hown : s.vm.findClass RX9 = some m.cls := hown
  have hl : lv_has ls 7 [(0, .ref h), (1, .int (nI o)), (2, .int (nI t)), (3, .int (nI n))] := hl
  clear hsz
  refine lv_iconst (v := nI 0) hx hb dX9_splitLine_0 (by decide) ?_
  refine lv_istore (lv' := [(4, .int (nI 0)), (0, .ref h), (1, .int (nI o)), (2, .int (nI t)), (3, .int (nI n))]) hx hb dX9_splitLine_1 hl (by decide) rfl (fun ls hl => ?_)
  have lp_3 : ∀ (n_3 : Nat) (k : Nat), (k ≤ n / 2) → (n / 2 - k) < n_3 → ∀ (H : Heap) (locs : List Loc) (ls : Array Slot), va_P G.1 vwCl [oM h ad thr sts hs len at_ num many, aI G (ad 5) 64 pa, aI G (ad 7) 8 (twoF k (n / 2) (splL pa o t (n / 2)) li)] H → va_D A [oM h ad thr sts hs len at_ num many, aI G (ad 5) 64 pa, aI G (ad 7) 8 (twoF k (n / 2) (splL pa o t (n / 2)) li)] → va_S A s.heap H locs → lv_has ls 7 [(0, .ref h), (1, .int (nI o)), (2, .int (nI t)), (3, .int (nI n)), (4, .int (nI k))] → W p l e (rm_X9_splitLine) s m AR below meth c H locs 0 0 QQ (F0 m 3 ls []) := by
    intro n_3
    induction n_3 with
    | zero => intro k hk hn_; exact absurd hn_ (Nat.not_lt_zero _)
    | succ n_3 ih_3 =>
      intro k hk hn_3 H locs ls hP hD hS hl
      refine lv_iload hx hb dX9_splitLine_3 (lv_at hl 4 rfl) ?_
      refine lv_iload_n hx hb dX9_splitLine_5 rfl (lv_at hl 3 rfl) ?_
      refine lv_iconst (v := nI 2) hx hb dX9_splitLine_6 (by decide) ?_
      refine N_idiv hx hb dX9_splitLine_7 (by omega) (by omega) (by omega) ?_
      refine N_icmp_ge (tgt := 79) hx hb dX9_splitLine_8 (by decide) (by omega) (by omega) (fun c_8 => ?_) (fun c_8 => ?_)
      · skip
        have ek_ : k = n / 2 := by omega
        rw [ek_] at hP hD
        have hl : lv_has ls 7 [(0, .ref h), (1, .int (nI o)), (2, .int (nI t)), (3, .int (nI n))] := lv_sub hl [0, 1, 2, 3] rfl
        refine lv_iconst (v := nI 0) hx hb dX9_splitLine_79 (by decide) ?_
        refine lv_istore (lv' := [(4, .int (nI 0)), (0, .ref h), (1, .int (nI o)), (2, .int (nI t)), (3, .int (nI n))]) hx hb dX9_splitLine_80 hl (by decide) rfl (fun ls hl => ?_)
        have lp_82 : ∀ (n_82 : Nat) (k : Nat), (k ≤ n) → (n - k) < n_82 → ∀ (H : Heap) (locs : List Loc) (ls : Array Slot), va_P G.1 vwCl [oM h ad thr sts hs len at_ num many, aI G (ad 5) 64 (putF pa (twoF (n / 2) (n / 2) (splL pa o t (n / 2)) li) o t k), aI G (ad 7) 8 (twoF (n / 2) (n / 2) (splL pa o t (n / 2)) li)] H → va_D A [oM h ad thr sts hs len at_ num many, aI G (ad 5) 64 (putF pa (twoF (n / 2) (n / 2) (splL pa o t (n / 2)) li) o t k), aI G (ad 7) 8 (twoF (n / 2) (n / 2) (splL pa o t (n / 2)) li)] → va_S A s.heap H locs → lv_has ls 7 [(0, .ref h), (1, .int (nI o)), (2, .int (nI t)), (3, .int (nI n)), (4, .int (nI k))] → W p l e (rm_X9_splitLine) s m AR below meth c H locs 0 0 QQ (F0 m 82 ls []) := by
          intro n_82
          induction n_82 with
          | zero => intro k hk hn_; exact absurd hn_ (Nat.not_lt_zero _)
          | succ n_82 ih_82 =>
            intro k hk hn_82 H locs ls hP hD hS hl
            refine lv_iload hx hb dX9_splitLine_82 (lv_at hl 4 rfl) ?_
            refine lv_iload_n hx hb dX9_splitLine_84 rfl (lv_at hl 3 rfl) ?_
            refine N_icmp_ge (tgt := 112) hx hb dX9_splitLine_85 (by decide) (by omega) (by omega) (fun c_85 => ?_) (fun c_85 => ?_)
            · skip
              have ek_ : k = n := by omega
              rw [ek_] at hP hD
              have hl : lv_has ls 7 [(0, .ref h), (1, .int (nI o)), (2, .int (nI t)), (3, .int (nI n))] := lv_sub hl [0, 1, 2, 3] rfl
              have e_1 : (putF pa (twoF (n / 2) (n / 2) (splL pa o t (n / 2)) li) o t n) = (spO pa o t n) := by exact putF_cong (twoF_all (by omega))
              have hP : va_P G.1 vwCl [oM h ad thr sts hs len at_ num many, aI G (ad 5) 64 (spO pa o t n), aI G (ad 7) 8 (twoF (n / 2) (n / 2) (splL pa o t (n / 2)) li)] _ := cong_P (q0 := 1) (fun j _ => congrFun e_1 j) rfl rfl hP
              have hD : va_D A [oM h ad thr sts hs len at_ num many, aI G (ad 5) 64 (spO pa o t n), aI G (ad 7) 8 (twoF (n / 2) (n / 2) (splL pa o t (n / 2)) li)] := cong_D (q0 := 1) rfl rfl hD
              have hP : va_P G.1 vwCl [oM h ad thr sts hs len at_ num many, aI G (ad 5) 64 (spO pa o t n), aI G (ad 7) 8 (twoF (n / 2) (n / 2) (splL pa o t (n / 2)) li)] _ := hP
              have hD : va_D A [oM h ad thr sts hs len at_ num many, aI G (ad 5) 64 (spO pa o t n), aI G (ad 7) 8 (twoF (n / 2) (n / 2) (splL pa o t (n / 2)) li)] := hD
              rw [hQQ]
              exact rt_v hx hb hr hlk (twoF (n / 2) (n / 2) (splL pa o t (n / 2)) li) dX9_splitLine_112 hP hD hS (by first | exact Nat.le_of_ble_eq_true rfl | (simp only [rm_X9_splitLine]; omega)) (by first | exact Nat.le_of_ble_eq_true rfl | (simp only [rm_X9_splitLine]; omega)) trivial
            · skip
              refine lv_aload_n hx hb dX9_splitLine_88 rfl (lv_at hl 0 rfl) ?_
              refine va_get (D := G.1) (ci := 8) (v := .ref (ad 5)) (C := RX9) (T := TX9) (N := 21) hx hb hts in_X9 hown hK hP 0 rfl rfl 8 (by decide) (hts _ q1675) (fun _ h9 => h9) rfl dX9_splitLine_89 ?_
              refine lv_iload_n hx hb dX9_splitLine_92 rfl (lv_at hl 1 rfl) ?_
              refine lv_iload hx hb dX9_splitLine_93 (lv_at hl 4 rfl) ?_
              refine lv_iload_n hx hb dX9_splitLine_95 rfl (lv_at hl 2 rfl) ?_
              refine N_imul hx hb dX9_splitLine_96 ?_
              refine N_iadd hx hb dX9_splitLine_97 ?_
              refine lv_aload_n hx hb dX9_splitLine_98 rfl (lv_at hl 0 rfl) ?_
              refine va_get (D := G.1) (ci := 8) (v := .ref (ad 7)) (C := RX9) (T := TX9) (N := 21) hx hb hts in_X9 hown hK hP 0 rfl rfl 10 (by decide) (hts _ q1677) (fun _ h9 => h9) rfl dX9_splitLine_99 ?_
              refine lv_iload hx hb dX9_splitLine_102 (lv_at hl 4 rfl) ?_
              refine N_iald hx hb dX9_splitLine_104 hK hP 2 0 rfl rfl (by omega) (by omega) ?_
              refine N_iast (ws' := [oM h ad thr sts hs len at_ num many, aI G (ad 5) 64 (upd (putF pa (twoF (n / 2) (n / 2) (splL pa o t (n / 2)) li) o t k) (o + (k * t)) ((twoF (n / 2) (n / 2) (splL pa o t (n / 2)) li) k)), aI G (ad 7) 8 (twoF (n / 2) (n / 2) (splL pa o t (n / 2)) li)]) hx hb dX9_splitLine_105 hK hP hD hS 1 0 rfl rfl (by rcases ht with rfl | rfl <;> omega) (by omega) rfl (fun H locs hP hD hS => ?_)
              refine N_iinc (a := k) (b := 1) (k9 := 4) (lv' := [(4, .int (nI (k + 1))), (0, .ref h), (1, .int (nI o)), (2, .int (nI t)), (3, .int (nI n))]) hx hb dX9_splitLine_106 hl rfl rfl (by decide) rfl (fun ls hl => ?_)
              refine lv_goto (tgt := 82) hx hb dX9_splitLine_109 (by decide) ?_
              have hP : va_P G.1 vwCl [oM h ad thr sts hs len at_ num many, aI G (ad 5) 64 (putF pa (twoF (n / 2) (n / 2) (splL pa o t (n / 2)) li) o t (k + 1)), aI G (ad 7) 8 (twoF (n / 2) (n / 2) (splL pa o t (n / 2)) li)] _ := hP
              have hD : va_D A [oM h ad thr sts hs len at_ num many, aI G (ad 5) 64 (putF pa (twoF (n / 2) (n / 2) (splL pa o t (n / 2)) li) o t (k + 1)), aI G (ad 7) 8 (twoF (n / 2) (n / 2) (splL pa o t (n / 2)) li)] := hD
              have hl : lv_has ls 7 [(0, .ref h), (1, .int (nI o)), (2, .int (nI t)), (3, .int (nI n)), (4, .int (nI (k + 1)))] := lv_sub hl [1, 2, 3, 4, 0] rfl
              exact ih_82 (k + 1) (by omega) (by omega) _ _ _ hP hD hS hl
        have hP : va_P G.1 vwCl [oM h ad thr sts hs len at_ num many, aI G (ad 5) 64 (putF pa (twoF (n / 2) (n / 2) (splL pa o t (n / 2)) li) o t 0), aI G (ad 7) 8 (twoF (n / 2) (n / 2) (splL pa o t (n / 2)) li)] _ := hP
        have hD : va_D A [oM h ad thr sts hs len at_ num many, aI G (ad 5) 64 (putF pa (twoF (n / 2) (n / 2) (splL pa o t (n / 2)) li) o t 0), aI G (ad 7) 8 (twoF (n / 2) (n / 2) (splL pa o t (n / 2)) li)] := hD
        have hl : lv_has ls 7 [(0, .ref h), (1, .int (nI o)), (2, .int (nI t)), (3, .int (nI n)), (4, .int (nI 0))] := lv_sub hl [1, 2, 3, 4, 0] rfl
        exact lp_82 _ 0 (by omega) (Nat.lt_succ_self _) _ _ _ hP hD hS hl
      · skip
        refine lv_aload_n hx hb dX9_splitLine_11 rfl (lv_at hl 0 rfl) ?_
        refine va_get (D := G.1) (ci := 8) (v := .ref (ad 5)) (C := RX9) (T := TX9) (N := 21) hx hb hts in_X9 hown hK hP 0 rfl rfl 8 (by decide) (hts _ q1675) (fun _ h9 => h9) rfl dX9_splitLine_12 ?_
        refine lv_iload_n hx hb dX9_splitLine_15 rfl (lv_at hl 1 rfl) ?_
        refine lv_iconst (v := nI 2) hx hb dX9_splitLine_16 (by decide) ?_
        refine lv_iload hx hb dX9_splitLine_17 (lv_at hl 4 rfl) ?_
        refine N_imul hx hb dX9_splitLine_19 ?_
        refine lv_iload_n hx hb dX9_splitLine_20 rfl (lv_at hl 2 rfl) ?_
        refine N_imul hx hb dX9_splitLine_21 ?_
        refine N_iadd hx hb dX9_splitLine_22 ?_
        refine N_iald hx hb dX9_splitLine_23 hK hP 1 0 rfl rfl (by rcases ht with rfl | rfl <;> omega) (by omega) ?_
        refine lv_istore (lv' := [(5, .int (pa (o + ((2 * k) * t)))), (0, .ref h), (1, .int (nI o)), (2, .int (nI t)), (3, .int (nI n)), (4, .int (nI k))]) hx hb dX9_splitLine_24 hl (by decide) rfl (fun ls hl => ?_)
        refine lv_aload_n hx hb dX9_splitLine_26 rfl (lv_at hl 1 rfl) ?_
        refine va_get (D := G.1) (ci := 8) (v := .ref (ad 5)) (C := RX9) (T := TX9) (N := 21) hx hb hts in_X9 hown hK hP 0 rfl rfl 8 (by decide) (hts _ q1675) (fun _ h9 => h9) rfl dX9_splitLine_27 ?_
        refine lv_iload_n hx hb dX9_splitLine_30 rfl (lv_at hl 2 rfl) ?_
        refine lv_iconst (v := nI 2) hx hb dX9_splitLine_31 (by decide) ?_
        refine lv_iload hx hb dX9_splitLine_32 (lv_at hl 5 rfl) ?_
        refine N_imul hx hb dX9_splitLine_34 ?_
        refine lv_iconst (v := nI 1) hx hb dX9_splitLine_35 (by decide) ?_
        refine N_iadd hx hb dX9_splitLine_36 ?_
        refine lv_iload_n hx hb dX9_splitLine_37 rfl (lv_at hl 3 rfl) ?_
        refine N_imul hx hb dX9_splitLine_38 ?_
        refine N_iadd hx hb dX9_splitLine_39 ?_
        refine N_iald hx hb dX9_splitLine_40 hK hP 1 0 rfl rfl (by rcases ht with rfl | rfl <;> omega) (by omega) ?_
        refine lv_istore (lv' := [(6, .int (pa (o + (((2 * k) + 1) * t)))), (5, .int (pa (o + ((2 * k) * t)))), (0, .ref h), (1, .int (nI o)), (2, .int (nI t)), (3, .int (nI n)), (4, .int (nI k))]) hx hb dX9_splitLine_41 hl (by decide) rfl (fun ls hl => ?_)
        refine lv_aload_n hx hb dX9_splitLine_43 rfl (lv_at hl 2 rfl) ?_
        refine va_get (D := G.1) (ci := 8) (v := .ref (ad 7)) (C := RX9) (T := TX9) (N := 21) hx hb hts in_X9 hown hK hP 0 rfl rfl 10 (by decide) (hts _ q1677) (fun _ h9 => h9) rfl dX9_splitLine_44 ?_
        refine lv_iload hx hb dX9_splitLine_47 (lv_at hl 6 rfl) ?_
        refine lv_iload hx hb dX9_splitLine_49 (lv_at hl 1 rfl) ?_
        refine lv_iload hx hb dX9_splitLine_51 (lv_at hl 0 rfl) ?_
        refine lv_iadd hx hb dX9_splitLine_53 ?_
        refine lv_iconst (v := nI 1) hx hb dX9_splitLine_54 (by decide) ?_
        refine lv_ishr hx hb dX9_splitLine_55 ?_
        refine N_iast (ws' := [oM h ad thr sts hs len at_ num many, aI G (ad 5) 64 pa, aI G (ad 7) 8 (upd (twoF k (n / 2) (splL pa o t (n / 2)) li) k (((pa (o + ((2 * k) * t))) + (pa (o + (((2 * k) + 1) * t)))) >>> ((nI 1) &&& 31)))]) hx hb dX9_splitLine_56 hK hP hD hS 2 0 rfl rfl (by omega) (by omega) rfl (fun H locs hP hD hS => ?_)
        refine lv_aload_n hx hb dX9_splitLine_57 rfl (lv_at hl 2 rfl) ?_
        refine va_get (D := G.1) (ci := 8) (v := .ref (ad 7)) (C := RX9) (T := TX9) (N := 21) hx hb hts in_X9 hown hK hP 0 rfl rfl 10 (by decide) (hts _ q1677) (fun _ h9 => h9) rfl dX9_splitLine_58 ?_
        refine lv_iload_n hx hb dX9_splitLine_61 rfl (lv_at hl 5 rfl) ?_
        refine lv_iconst (v := nI 2) hx hb dX9_splitLine_62 (by decide) ?_
        refine N_idiv hx hb dX9_splitLine_63 (by omega) (by omega) (by omega) ?_
        refine lv_iload hx hb dX9_splitLine_64 (lv_at hl 6 rfl) ?_
        refine N_iadd hx hb dX9_splitLine_66 ?_
        refine lv_iload hx hb dX9_splitLine_67 (lv_at hl 1 rfl) ?_
        refine lv_iload hx hb dX9_splitLine_69 (lv_at hl 0 rfl) ?_
        refine lv_isub hx hb dX9_splitLine_71 ?_
        refine N_iast (ws' := [oM h ad thr sts hs len at_ num many, aI G (ad 5) 64 pa, aI G (ad 7) 8 (upd (upd (twoF k (n / 2) (splL pa o t (n / 2)) li) k (((pa (o + ((2 * k) * t))) + (pa (o + (((2 * k) + 1) * t)))) >>> ((nI 1) &&& 31))) ((n / 2) + k) ((pa (o + ((2 * k) * t))) - (pa (o + (((2 * k) + 1) * t)))))]) hx hb dX9_splitLine_72 hK hP hD hS 2 0 rfl rfl (by omega) (by omega) rfl (fun H locs hP hD hS => ?_)
        refine N_iinc (a := k) (b := 1) (k9 := 6) (lv' := [(4, .int (nI (k + 1))), (6, .int (pa (o + (((2 * k) + 1) * t)))), (5, .int (pa (o + ((2 * k) * t)))), (0, .ref h), (1, .int (nI o)), (2, .int (nI t)), (3, .int (nI n))]) hx hb dX9_splitLine_73 hl rfl rfl (by decide) rfl (fun ls hl => ?_)
        refine lv_goto (tgt := 3) hx hb dX9_splitLine_76 (by decide) ?_
        have e_2 : (upd (upd (twoF k (n / 2) (splL pa o t (n / 2)) li) k (((pa (o + ((2 * k) * t))) + (pa (o + (((2 * k) + 1) * t)))) >>> ((nI 1) &&& 31))) ((n / 2) + k) ((pa (o + ((2 * k) * t))) - (pa (o + (((2 * k) + 1) * t))))) = (twoF (k + 1) (n / 2) (splL pa o t (n / 2)) li) := by exact twoF_step (f := 0) (by omega)
        have hP : va_P G.1 vwCl [oM h ad thr sts hs len at_ num many, aI G (ad 5) 64 pa, aI G (ad 7) 8 (twoF (k + 1) (n / 2) (splL pa o t (n / 2)) li)] _ := cong_P (q0 := 2) (fun j _ => congrFun e_2 j) rfl rfl hP
        have hD : va_D A [oM h ad thr sts hs len at_ num many, aI G (ad 5) 64 pa, aI G (ad 7) 8 (twoF (k + 1) (n / 2) (splL pa o t (n / 2)) li)] := cong_D (q0 := 2) rfl rfl hD
        have hP : va_P G.1 vwCl [oM h ad thr sts hs len at_ num many, aI G (ad 5) 64 pa, aI G (ad 7) 8 (twoF (k + 1) (n / 2) (splL pa o t (n / 2)) li)] _ := hP
        have hD : va_D A [oM h ad thr sts hs len at_ num many, aI G (ad 5) 64 pa, aI G (ad 7) 8 (twoF (k + 1) (n / 2) (splL pa o t (n / 2)) li)] := hD
        have hl : lv_has ls 7 [(0, .ref h), (1, .int (nI o)), (2, .int (nI t)), (3, .int (nI n)), (4, .int (nI (k + 1)))] := lv_sub hl [3, 4, 5, 6, 0] rfl
        exact ih_3 (k + 1) (by omega) (by omega) _ _ _ hP hD hS hl
  have e_3 : (li) = (twoF 0 (n / 2) (splL pa o t (n / 2)) li) := by exact twoF_0.symm
  have hP : va_P G.1 vwCl [oM h ad thr sts hs len at_ num many, aI G (ad 5) 64 pa, aI G (ad 7) 8 (twoF 0 (n / 2) (splL pa o t (n / 2)) li)] _ := cong_P (q0 := 2) (fun j _ => congrFun e_3 j) rfl rfl hP
  have hD : va_D A [oM h ad thr sts hs len at_ num many, aI G (ad 5) 64 pa, aI G (ad 7) 8 (twoF 0 (n / 2) (splL pa o t (n / 2)) li)] := cong_D (q0 := 2) rfl rfl hD
  have hP : va_P G.1 vwCl [oM h ad thr sts hs len at_ num many, aI G (ad 5) 64 pa, aI G (ad 7) 8 (twoF 0 (n / 2) (splL pa o t (n / 2)) li)] _ := hP
  have hD : va_D A [oM h ad thr sts hs len at_ num many, aI G (ad 5) 64 pa, aI G (ad 7) 8 (twoF 0 (n / 2) (splL pa o t (n / 2)) li)] := hD
  have hl : lv_has ls 7 [(0, .ref h), (1, .int (nI o)), (2, .int (nI t)), (3, .int (nI n)), (4, .int (nI 0))] := lv_sub hl [1, 2, 3, 4, 0] rfl
  exact lp_3 _ 0 (by omega) (Nat.lt_succ_self _) _ _ _ hP hD hS hl
def rm_X9_joinLine : Room := ({ frames := 0, cells := 0, slots := 0, locals := 0 } : Room)
set_option maxHeartbeats 400000 in
set_option maxRecDepth 100000 in
theorem t_X9_joinLine (l : Launch) (G : GG) (b0 sz : Nat) (h : Nat) (ad : Nat → Nat) (thr sts : Nat) (hs : Bool) (len at_ num many : Nat) (bk li : Nat → Int32) (o t n : Nat) (ht : t = 1 ∨ t = 8) (hn : n = 8 ∨ n = 4 ∨ n = 2) (ho : (t = 1 → o + n ≤ 64) ∧ (t = 8 → o + 8 * n ≤ 71)) : CT l yX9_joinLine cX9_joinLine 7 none (rm_X9_joinLine) G b0 [.ref h, .int (nI o), .int (nI t), .int (nI n)] [oM h ad thr sts hs len at_ num many, aI G (ad 6) 64 bk, aI G (ad 7) 8 li] sz (Rv G (fun (u : Nat → Int32) => True) (fun (u : Nat → Int32) => [oM h ad thr sts hs len at_ num many, aI G (ad 6) 64 (joO bk o t n), aI G (ad 7) 8 u])) := by
  refine CT.go (by decide) (Nat.le_of_ble_eq_true rfl) (fun p e s m below meth c A ls AR QQ hx hb hr hlk hml hown hnm hts hE hA hAb hsz hP hD hS hl hQQ => ?_)
  have hK := hE.1
  have hown : s.vm.findClass RX9 = some m.cls := hown
  have hl : lv_has ls 7 [(0, .ref h), (1, .int (nI o)), (2, .int (nI t)), (3, .int (nI n))] := hl
  clear hsz
  refine lv_iconst (v := nI 0) hx hb dX9_joinLine_0 (by decide) ?_
  refine lv_istore (lv' := [(4, .int (nI 0)), (0, .ref h), (1, .int (nI o)), (2, .int (nI t)), (3, .int (nI n))]) hx hb dX9_joinLine_1 hl (by decide) rfl (fun ls hl => ?_)
  have lp_3 : ∀ (n_3 : Nat) (k : Nat), (k ≤ n / 2) → (n / 2 - k) < n_3 → ∀ (H : Heap) (locs : List Loc) (ls : Array Slot), va_P G.1 vwCl [oM h ad thr sts hs len at_ num many, aI G (ad 6) 64 bk, aI G (ad 7) 8 (fillTo (2 * k) (joiL bk o t (n / 2)) li)] H → va_D A [oM h ad thr sts hs len at_ num many, aI G (ad 6) 64 bk, aI G (ad 7) 8 (fillTo (2 * k) (joiL bk o t (n / 2)) li)] → va_S A s.heap H locs → lv_has ls 7 [(0, .ref h), (1, .int (nI o)), (2, .int (nI t)), (3, .int (nI n)), (4, .int (nI k))] → W p l e (rm_X9_joinLine) s m AR below meth c H locs 0 0 QQ (F0 m 3 ls []) := by
    intro n_3
    induction n_3 with
    | zero => intro k hk hn_; exact absurd hn_ (Nat.not_lt_zero _)
    | succ n_3 ih_3 =>
      intro k hk hn_3 H locs ls hP hD hS hl
      refine lv_iload hx hb dX9_joinLine_3 (lv_at hl 4 rfl) ?_
      refine lv_iload_n hx hb dX9_joinLine_5 rfl (lv_at hl 3 rfl) ?_
      refine lv_iconst (v := nI 2) hx hb dX9_joinLine_6 (by decide) ?_
      refine N_idiv hx hb dX9_joinLine_7 (by omega) (by omega) (by omega) ?_
      refine N_icmp_ge (tgt := 81) hx hb dX9_joinLine_8 (by decide) (by omega) (by omega) (fun c_8 => ?_) (fun c_8 => ?_)
      · skip
        have ek_ : k = n / 2 := by omega
        rw [ek_] at hP hD
        have hl : lv_has ls 7 [(0, .ref h), (1, .int (nI o)), (2, .int (nI t)), (3, .int (nI n))] := lv_sub hl [0, 1, 2, 3] rfl
        refine lv_iconst (v := nI 0) hx hb dX9_joinLine_81 (by decide) ?_
        refine lv_istore (lv' := [(4, .int (nI 0)), (0, .ref h), (1, .int (nI o)), (2, .int (nI t)), (3, .int (nI n))]) hx hb dX9_joinLine_82 hl (by decide) rfl (fun ls hl => ?_)
        have lp_84 : ∀ (n_84 : Nat) (k : Nat), (k ≤ n) → (n - k) < n_84 → ∀ (H : Heap) (locs : List Loc) (ls : Array Slot), va_P G.1 vwCl [oM h ad thr sts hs len at_ num many, aI G (ad 6) 64 (putF bk (fillTo (2 * (n / 2)) (joiL bk o t (n / 2)) li) o t k), aI G (ad 7) 8 (fillTo (2 * (n / 2)) (joiL bk o t (n / 2)) li)] H → va_D A [oM h ad thr sts hs len at_ num many, aI G (ad 6) 64 (putF bk (fillTo (2 * (n / 2)) (joiL bk o t (n / 2)) li) o t k), aI G (ad 7) 8 (fillTo (2 * (n / 2)) (joiL bk o t (n / 2)) li)] → va_S A s.heap H locs → lv_has ls 7 [(0, .ref h), (1, .int (nI o)), (2, .int (nI t)), (3, .int (nI n)), (4, .int (nI k))] → W p l e (rm_X9_joinLine) s m AR below meth c H locs 0 0 QQ (F0 m 84 ls []) := by
          intro n_84
          induction n_84 with
          | zero => intro k hk hn_; exact absurd hn_ (Nat.not_lt_zero _)
          | succ n_84 ih_84 =>
            intro k hk hn_84 H locs ls hP hD hS hl
            refine lv_iload hx hb dX9_joinLine_84 (lv_at hl 4 rfl) ?_
            refine lv_iload_n hx hb dX9_joinLine_86 rfl (lv_at hl 3 rfl) ?_
            refine N_icmp_ge (tgt := 114) hx hb dX9_joinLine_87 (by decide) (by omega) (by omega) (fun c_87 => ?_) (fun c_87 => ?_)
            · skip
              have ek_ : k = n := by omega
              rw [ek_] at hP hD
              have hl : lv_has ls 7 [(0, .ref h), (1, .int (nI o)), (2, .int (nI t)), (3, .int (nI n))] := lv_sub hl [0, 1, 2, 3] rfl
              have e_1 : (putF bk (fillTo (2 * (n / 2)) (joiL bk o t (n / 2)) li) o t n) = (joO bk o t n) := by exact putF_cong (fun j hj => fill_lt (by omega))
              have hP : va_P G.1 vwCl [oM h ad thr sts hs len at_ num many, aI G (ad 6) 64 (joO bk o t n), aI G (ad 7) 8 (fillTo (2 * (n / 2)) (joiL bk o t (n / 2)) li)] _ := cong_P (q0 := 1) (fun j _ => congrFun e_1 j) rfl rfl hP
              have hD : va_D A [oM h ad thr sts hs len at_ num many, aI G (ad 6) 64 (joO bk o t n), aI G (ad 7) 8 (fillTo (2 * (n / 2)) (joiL bk o t (n / 2)) li)] := cong_D (q0 := 1) rfl rfl hD
              have hP : va_P G.1 vwCl [oM h ad thr sts hs len at_ num many, aI G (ad 6) 64 (joO bk o t n), aI G (ad 7) 8 (fillTo (2 * (n / 2)) (joiL bk o t (n / 2)) li)] _ := hP
              have hD : va_D A [oM h ad thr sts hs len at_ num many, aI G (ad 6) 64 (joO bk o t n), aI G (ad 7) 8 (fillTo (2 * (n / 2)) (joiL bk o t (n / 2)) li)] := hD
              rw [hQQ]
              exact rt_v hx hb hr hlk (fillTo (2 * (n / 2)) (joiL bk o t (n / 2)) li) dX9_joinLine_114 hP hD hS (by first | exact Nat.le_of_ble_eq_true rfl | (simp only [rm_X9_joinLine]; omega)) (by first | exact Nat.le_of_ble_eq_true rfl | (simp only [rm_X9_joinLine]; omega)) trivial
            · skip
              refine lv_aload_n hx hb dX9_joinLine_90 rfl (lv_at hl 0 rfl) ?_
              refine va_get (D := G.1) (ci := 8) (v := .ref (ad 6)) (C := RX9) (T := TX9) (N := 21) hx hb hts in_X9 hown hK hP 0 rfl rfl 9 (by decide) (hts _ q1676) (fun _ h9 => h9) rfl dX9_joinLine_91 ?_
              refine lv_iload_n hx hb dX9_joinLine_94 rfl (lv_at hl 1 rfl) ?_
              refine lv_iload hx hb dX9_joinLine_95 (lv_at hl 4 rfl) ?_
              refine lv_iload_n hx hb dX9_joinLine_97 rfl (lv_at hl 2 rfl) ?_
              refine N_imul hx hb dX9_joinLine_98 ?_
              refine N_iadd hx hb dX9_joinLine_99 ?_
              refine lv_aload_n hx hb dX9_joinLine_100 rfl (lv_at hl 0 rfl) ?_
              refine va_get (D := G.1) (ci := 8) (v := .ref (ad 7)) (C := RX9) (T := TX9) (N := 21) hx hb hts in_X9 hown hK hP 0 rfl rfl 10 (by decide) (hts _ q1677) (fun _ h9 => h9) rfl dX9_joinLine_101 ?_
              refine lv_iload hx hb dX9_joinLine_104 (lv_at hl 4 rfl) ?_
              refine N_iald hx hb dX9_joinLine_106 hK hP 2 0 rfl rfl (by omega) (by omega) ?_
              refine N_iast (ws' := [oM h ad thr sts hs len at_ num many, aI G (ad 6) 64 (upd (putF bk (fillTo (2 * (n / 2)) (joiL bk o t (n / 2)) li) o t k) (o + (k * t)) ((fillTo (2 * (n / 2)) (joiL bk o t (n / 2)) li) k)), aI G (ad 7) 8 (fillTo (2 * (n / 2)) (joiL bk o t (n / 2)) li)]) hx hb dX9_joinLine_107 hK hP hD hS 1 0 rfl rfl (by rcases ht with rfl | rfl <;> omega) (by omega) rfl (fun H locs hP hD hS => ?_)
              refine N_iinc (a := k) (b := 1) (k9 := 4) (lv' := [(4, .int (nI (k + 1))), (0, .ref h), (1, .int (nI o)), (2, .int (nI t)), (3, .int (nI n))]) hx hb dX9_joinLine_108 hl rfl rfl (by decide) rfl (fun ls hl => ?_)
              refine lv_goto (tgt := 84) hx hb dX9_joinLine_111 (by decide) ?_
              have hP : va_P G.1 vwCl [oM h ad thr sts hs len at_ num many, aI G (ad 6) 64 (putF bk (fillTo (2 * (n / 2)) (joiL bk o t (n / 2)) li) o t (k + 1)), aI G (ad 7) 8 (fillTo (2 * (n / 2)) (joiL bk o t (n / 2)) li)] _ := hP
              have hD : va_D A [oM h ad thr sts hs len at_ num many, aI G (ad 6) 64 (putF bk (fillTo (2 * (n / 2)) (joiL bk o t (n / 2)) li) o t (k + 1)), aI G (ad 7) 8 (fillTo (2 * (n / 2)) (joiL bk o t (n / 2)) li)] := hD
              have hl : lv_has ls 7 [(0, .ref h), (1, .int (nI o)), (2, .int (nI t)), (3, .int (nI n)), (4, .int (nI (k + 1)))] := lv_sub hl [1, 2, 3, 4, 0] rfl
              exact ih_84 (k + 1) (by omega) (by omega) _ _ _ hP hD hS hl
        have hP : va_P G.1 vwCl [oM h ad thr sts hs len at_ num many, aI G (ad 6) 64 (putF bk (fillTo (2 * (n / 2)) (joiL bk o t (n / 2)) li) o t 0), aI G (ad 7) 8 (fillTo (2 * (n / 2)) (joiL bk o t (n / 2)) li)] _ := hP
        have hD : va_D A [oM h ad thr sts hs len at_ num many, aI G (ad 6) 64 (putF bk (fillTo (2 * (n / 2)) (joiL bk o t (n / 2)) li) o t 0), aI G (ad 7) 8 (fillTo (2 * (n / 2)) (joiL bk o t (n / 2)) li)] := hD
        have hl : lv_has ls 7 [(0, .ref h), (1, .int (nI o)), (2, .int (nI t)), (3, .int (nI n)), (4, .int (nI 0))] := lv_sub hl [1, 2, 3, 4, 0] rfl
        exact lp_84 _ 0 (by omega) (Nat.lt_succ_self _) _ _ _ hP hD hS hl
      · skip
        refine lv_aload_n hx hb dX9_joinLine_11 rfl (lv_at hl 0 rfl) ?_
        refine va_get (D := G.1) (ci := 8) (v := .ref (ad 6)) (C := RX9) (T := TX9) (N := 21) hx hb hts in_X9 hown hK hP 0 rfl rfl 9 (by decide) (hts _ q1676) (fun _ h9 => h9) rfl dX9_joinLine_12 ?_
        refine lv_iload_n hx hb dX9_joinLine_15 rfl (lv_at hl 1 rfl) ?_
        refine lv_iload_n hx hb dX9_joinLine_16 rfl (lv_at hl 3 rfl) ?_
        refine lv_iconst (v := nI 2) hx hb dX9_joinLine_17 (by decide) ?_
        refine N_idiv hx hb dX9_joinLine_18 (by omega) (by omega) (by omega) ?_
        refine lv_iload hx hb dX9_joinLine_19 (lv_at hl 4 rfl) ?_
        refine N_iadd hx hb dX9_joinLine_21 ?_
        refine lv_iload_n hx hb dX9_joinLine_22 rfl (lv_at hl 2 rfl) ?_
        refine N_imul hx hb dX9_joinLine_23 ?_
        refine N_iadd hx hb dX9_joinLine_24 ?_
        refine N_iald hx hb dX9_joinLine_25 hK hP 1 0 rfl rfl (by rcases ht with rfl | rfl <;> omega) (by omega) ?_
        refine lv_istore (lv' := [(5, .int (bk (o + (((n / 2) + k) * t)))), (0, .ref h), (1, .int (nI o)), (2, .int (nI t)), (3, .int (nI n)), (4, .int (nI k))]) hx hb dX9_joinLine_26 hl (by decide) rfl (fun ls hl => ?_)
        refine lv_aload_n hx hb dX9_joinLine_28 rfl (lv_at hl 1 rfl) ?_
        refine va_get (D := G.1) (ci := 8) (v := .ref (ad 6)) (C := RX9) (T := TX9) (N := 21) hx hb hts in_X9 hown hK hP 0 rfl rfl 9 (by decide) (hts _ q1676) (fun _ h9 => h9) rfl dX9_joinLine_29 ?_
        refine lv_iload_n hx hb dX9_joinLine_32 rfl (lv_at hl 2 rfl) ?_
        refine lv_iload hx hb dX9_joinLine_33 (lv_at hl 5 rfl) ?_
        refine lv_iload_n hx hb dX9_joinLine_35 rfl (lv_at hl 3 rfl) ?_
        refine N_imul hx hb dX9_joinLine_36 ?_
        refine N_iadd hx hb dX9_joinLine_37 ?_
        refine N_iald hx hb dX9_joinLine_38 hK hP 1 0 rfl rfl (by rcases ht with rfl | rfl <;> omega) (by omega) ?_
        refine lv_iload hx hb dX9_joinLine_39 (lv_at hl 0 rfl) ?_
        refine lv_iconst (v := nI 1) hx hb dX9_joinLine_41 (by decide) ?_
        refine lv_iadd hx hb dX9_joinLine_42 ?_
        refine lv_iconst (v := nI 1) hx hb dX9_joinLine_43 (by decide) ?_
        refine lv_ishr hx hb dX9_joinLine_44 ?_
        refine lv_iadd hx hb dX9_joinLine_45 ?_
        refine lv_istore (lv' := [(6, .int ((bk (o + (k * t))) + (((bk (o + (((n / 2) + k) * t))) + (nI 1)) >>> ((nI 1) &&& 31)))), (5, .int (bk (o + (((n / 2) + k) * t)))), (0, .ref h), (1, .int (nI o)), (2, .int (nI t)), (3, .int (nI n)), (4, .int (nI k))]) hx hb dX9_joinLine_46 hl (by decide) rfl (fun ls hl => ?_)
        refine lv_aload_n hx hb dX9_joinLine_48 rfl (lv_at hl 2 rfl) ?_
        refine va_get (D := G.1) (ci := 8) (v := .ref (ad 7)) (C := RX9) (T := TX9) (N := 21) hx hb hts in_X9 hown hK hP 0 rfl rfl 10 (by decide) (hts _ q1677) (fun _ h9 => h9) rfl dX9_joinLine_49 ?_
        refine lv_iconst (v := nI 2) hx hb dX9_joinLine_52 (by decide) ?_
        refine lv_iload hx hb dX9_joinLine_53 (lv_at hl 6 rfl) ?_
        refine N_imul hx hb dX9_joinLine_55 ?_
        refine lv_iload hx hb dX9_joinLine_56 (lv_at hl 0 rfl) ?_
        refine N_iast (ws' := [oM h ad thr sts hs len at_ num many, aI G (ad 6) 64 bk, aI G (ad 7) 8 (upd (fillTo (2 * k) (joiL bk o t (n / 2)) li) (2 * k) ((bk (o + (k * t))) + (((bk (o + (((n / 2) + k) * t))) + (nI 1)) >>> ((nI 1) &&& 31))))]) hx hb dX9_joinLine_58 hK hP hD hS 2 0 rfl rfl (by omega) (by omega) rfl (fun H locs hP hD hS => ?_)
        refine lv_aload_n hx hb dX9_joinLine_59 rfl (lv_at hl 2 rfl) ?_
        refine va_get (D := G.1) (ci := 8) (v := .ref (ad 7)) (C := RX9) (T := TX9) (N := 21) hx hb hts in_X9 hown hK hP 0 rfl rfl 10 (by decide) (hts _ q1677) (fun _ h9 => h9) rfl dX9_joinLine_60 ?_
        refine lv_iconst (v := nI 2) hx hb dX9_joinLine_63 (by decide) ?_
        refine lv_iload hx hb dX9_joinLine_64 (lv_at hl 6 rfl) ?_
        refine N_imul hx hb dX9_joinLine_66 ?_
        refine lv_iconst (v := nI 1) hx hb dX9_joinLine_67 (by decide) ?_
        refine N_iadd hx hb dX9_joinLine_68 ?_
        refine lv_iload hx hb dX9_joinLine_69 (lv_at hl 0 rfl) ?_
        refine lv_iload hx hb dX9_joinLine_71 (lv_at hl 1 rfl) ?_
        refine lv_isub hx hb dX9_joinLine_73 ?_
        refine N_iast (ws' := [oM h ad thr sts hs len at_ num many, aI G (ad 6) 64 bk, aI G (ad 7) 8 (upd (upd (fillTo (2 * k) (joiL bk o t (n / 2)) li) (2 * k) ((bk (o + (k * t))) + (((bk (o + (((n / 2) + k) * t))) + (nI 1)) >>> ((nI 1) &&& 31)))) ((2 * k) + 1) (((bk (o + (k * t))) + (((bk (o + (((n / 2) + k) * t))) + (nI 1)) >>> ((nI 1) &&& 31))) - (bk (o + (((n / 2) + k) * t)))))]) hx hb dX9_joinLine_74 hK hP hD hS 2 0 rfl rfl (by omega) (by omega) rfl (fun H locs hP hD hS => ?_)
        refine N_iinc (a := k) (b := 1) (k9 := 6) (lv' := [(4, .int (nI (k + 1))), (6, .int ((bk (o + (k * t))) + (((bk (o + (((n / 2) + k) * t))) + (nI 1)) >>> ((nI 1) &&& 31)))), (5, .int (bk (o + (((n / 2) + k) * t)))), (0, .ref h), (1, .int (nI o)), (2, .int (nI t)), (3, .int (nI n))]) hx hb dX9_joinLine_75 hl rfl rfl (by decide) rfl (fun ls hl => ?_)
        refine lv_goto (tgt := 3) hx hb dX9_joinLine_78 (by decide) ?_
        have e_2 : (upd (upd (fillTo (2 * k) (joiL bk o t (n / 2)) li) (2 * k) ((bk (o + (k * t))) + (((bk (o + (((n / 2) + k) * t))) + (nI 1)) >>> ((nI 1) &&& 31)))) ((2 * k) + 1) (((bk (o + (k * t))) + (((bk (o + (((n / 2) + k) * t))) + (nI 1)) >>> ((nI 1) &&& 31))) - (bk (o + (((n / 2) + k) * t))))) = (fillTo (2 * (k + 1)) (joiL bk o t (n / 2)) li) := by exact joi_step
        have hP : va_P G.1 vwCl [oM h ad thr sts hs len at_ num many, aI G (ad 6) 64 bk, aI G (ad 7) 8 (fillTo (2 * (k + 1)) (joiL bk o t (n / 2)) li)] _ := cong_P (q0 := 2) (fun j _ => congrFun e_2 j) rfl rfl hP
        have hD : va_D A [oM h ad thr sts hs len at_ num many, aI G (ad 6) 64 bk, aI G (ad 7) 8 (fillTo (2 * (k + 1)) (joiL bk o t (n / 2)) li)] := cong_D (q0 := 2) rfl rfl hD
        have hP : va_P G.1 vwCl [oM h ad thr sts hs len at_ num many, aI G (ad 6) 64 bk, aI G (ad 7) 8 (fillTo (2 * (k + 1)) (joiL bk o t (n / 2)) li)] _ := hP
        have hD : va_D A [oM h ad thr sts hs len at_ num many, aI G (ad 6) 64 bk, aI G (ad 7) 8 (fillTo (2 * (k + 1)) (joiL bk o t (n / 2)) li)] := hD
        have hl : lv_has ls 7 [(0, .ref h), (1, .int (nI o)), (2, .int (nI t)), (3, .int (nI n)), (4, .int (nI (k + 1)))] := lv_sub hl [3, 4, 5, 6, 0] rfl
        exact ih_3 (k + 1) (by omega) (by omega) _ _ _ hP hD hS hl
  have e_3 : (li) = (fillTo (2 * 0) (joiL bk o t (n / 2)) li) := by exact (fill0 _ _).symm
  have hP : va_P G.1 vwCl [oM h ad thr sts hs len at_ num many, aI G (ad 6) 64 bk, aI G (ad 7) 8 (fillTo (2 * 0) (joiL bk o t (n / 2)) li)] _ := cong_P (q0 := 2) (fun j _ => congrFun e_3 j) rfl rfl hP
  have hD : va_D A [oM h ad thr sts hs len at_ num many, aI G (ad 6) 64 bk, aI G (ad 7) 8 (fillTo (2 * 0) (joiL bk o t (n / 2)) li)] := cong_D (q0 := 2) rfl rfl hD
  have hP : va_P G.1 vwCl [oM h ad thr sts hs len at_ num many, aI G (ad 6) 64 bk, aI G (ad 7) 8 (fillTo (2 * 0) (joiL bk o t (n / 2)) li)] _ := hP
  have hD : va_D A [oM h ad thr sts hs len at_ num many, aI G (ad 6) 64 bk, aI G (ad 7) 8 (fillTo (2 * 0) (joiL bk o t (n / 2)) li)] := hD
  have hl : lv_has ls 7 [(0, .ref h), (1, .int (nI o)), (2, .int (nI t)), (3, .int (nI n)), (4, .int (nI 0))] := lv_sub hl [1, 2, 3, 4, 0] rfl
  exact lp_3 _ 0 (by omega) (Nat.lt_succ_self _) _ _ _ hP hD hS hl
def rm_X9_splitBy : Room := ({ frames := 1, cells := 0, slots := 0, locals := 27 } : Room)
set_option maxHeartbeats 400000 in
set_option maxRecDepth 100000 in
theorem t_X9_splitBy (l : Launch) (G : GG) (b0 sz : Nat) (h : Nat) (ad : Nat → Nat) (thr sts : Nat) (hs : Bool) (len at_ num many : Nat) (st pa li : Nat → Int32) (L : Nat) (hL : L ≤ 3) : CT l yX9_splitBy cX9_splitBy 5 none (rm_X9_splitBy) G b0 [.ref h, .int (nI L)] [oM h ad thr sts hs len at_ num many, aI G (ad 1) 68 st, aI G (ad 5) 64 pa, aI G (ad 7) 8 li] sz (Rv G (fun (u : Nat → Int32) => True) (fun (u : Nat → Int32) => [oM h ad thr sts hs len at_ num many, aI G (ad 1) 68 st, aI G (ad 5) 64 (splitP st L), aI G (ad 7) 8 u])) := by
  refine CT.go (by decide) (Nat.le_of_ble_eq_true rfl) (fun p e s m below meth c A ls AR QQ hx hb hr hlk hml hown hnm hts hE hA hAb hsz hP hD hS hl hQQ => ?_)
  have hK := hE.1
  have hown : s.vm.findClass RX9 = some m.cls := hown
  have hl : lv_has ls 5 [(0, .ref h), (1, .int (nI L))] := hl
  clear hsz
  refine lv_iconst (v := nI 0) hx hb dX9_splitBy_0 (by decide) ?_
  refine lv_istore_n (lv' := [(2, .int (nI 0)), (0, .ref h), (1, .int (nI L))]) hx hb dX9_splitBy_1 rfl hl (by decide) rfl (fun ls hl => ?_)
  have lp_2 : ∀ (n_2 : Nat) (k : Nat), (k ≤ 64) → (64 - k) < n_2 → ∀ (H : Heap) (locs : List Loc) (ls : Array Slot), va_P G.1 vwCl [oM h ad thr sts hs len at_ num many, aI G (ad 1) 68 st, aI G (ad 5) 64 (fillTo k st pa), aI G (ad 7) 8 li] H → va_D A [oM h ad thr sts hs len at_ num many, aI G (ad 1) 68 st, aI G (ad 5) 64 (fillTo k st pa), aI G (ad 7) 8 li] → va_S A s.heap H locs → lv_has ls 5 [(0, .ref h), (1, .int (nI L)), (2, .int (nI k))] → W p l e (rm_X9_splitBy) s m AR below meth c H locs 0 0 QQ (F0 m 2 ls []) := by
    intro n_2
    induction n_2 with
    | zero => intro k hk hn_; exact absurd hn_ (Nat.not_lt_zero _)
    | succ n_2 ih_2 =>
      intro k hk hn_2 H locs ls hP hD hS hl
      refine lv_iload_n hx hb dX9_splitBy_2 rfl (lv_at hl 2 rfl) ?_
      refine lv_bipush (v := nI 64) hx hb dX9_splitBy_3 (by decide) ?_
      refine N_icmp_ge (tgt := 26) hx hb dX9_splitBy_5 (by decide) (by omega) (by omega) (fun c_5 => ?_) (fun c_5 => ?_)
      · skip
        obtain rfl : k = 64 := by omega
        have e_1 : ∀ j, j < 64 → (fillTo 64 st pa) j = (splitP st 0) j := by exact fill_pt
        have hP : va_P G.1 vwCl [oM h ad thr sts hs len at_ num many, aI G (ad 1) 68 st, aI G (ad 5) 64 (splitP st 0), aI G (ad 7) 8 li] _ := cong_P (q0 := 2) e_1 rfl rfl hP
        have hD : va_D A [oM h ad thr sts hs len at_ num many, aI G (ad 1) 68 st, aI G (ad 5) 64 (splitP st 0), aI G (ad 7) 8 li] := cong_D (q0 := 2) rfl rfl hD
        have hP : va_P G.1 vwCl [oM h ad thr sts hs len at_ num many, aI G (ad 1) 68 st, aI G (ad 5) 64 (splitP st 0), aI G (ad 7) 8 li] _ := hP
        have hD : va_D A [oM h ad thr sts hs len at_ num many, aI G (ad 1) 68 st, aI G (ad 5) 64 (splitP st 0), aI G (ad 7) 8 li] := hD
        refine lv_iconst (v := nI 0) hx hb dX9_splitBy_26 (by decide) ?_
        refine lv_istore_n (lv' := [(2, .int (nI 0)), (0, .ref h), (1, .int (nI L))]) hx hb dX9_splitBy_27 rfl hl (by decide) rfl (fun ls hl => ?_)
        have lp_28 : ∀ (n_28 : Nat) (i : Nat) (lx : Nat → Int32), (i ≤ L) → (L - i) < n_28 → ∀ (H : Heap) (locs : List Loc) (ls : Array Slot), va_P G.1 vwCl [oM h ad thr sts hs len at_ num many, aI G (ad 1) 68 st, aI G (ad 5) 64 (splitP st i), aI G (ad 7) 8 lx] H → va_D A [oM h ad thr sts hs len at_ num many, aI G (ad 1) 68 st, aI G (ad 5) 64 (splitP st i), aI G (ad 7) 8 lx] → va_S A s.heap H locs → lv_has ls 5 [(0, .ref h), (1, .int (nI L)), (2, .int (nI i))] → W p l e (rm_X9_splitBy) s m AR below meth c H locs 0 0 QQ (F0 m 28 ls []) := by
          intro n_28
          induction n_28 with
          | zero => intro i lx hi hn_; exact absurd hn_ (Nat.not_lt_zero _)
          | succ n_28 ih_28 =>
            intro i lx hi hn_28 H locs ls hP hD hS hl
            refine lv_iload_n hx hb dX9_splitBy_28 rfl (lv_at hl 2 rfl) ?_
            refine lv_iload_n hx hb dX9_splitBy_29 rfl (lv_at hl 1 rfl) ?_
            refine N_icmp_ge (tgt := 94) hx hb dX9_splitBy_30 (by decide) (by omega) (by omega) (fun c_30 => ?_) (fun c_30 => ?_)
            · skip
              have ek_ : i = L := by omega
              rw [ek_] at hP hD
              have hl : lv_has ls 5 [(0, .ref h), (1, .int (nI L))] := lv_sub hl [0, 1] rfl
              rw [hQQ]
              exact rt_v hx hb hr hlk lx dX9_splitBy_94 hP hD hS (by first | exact Nat.le_of_ble_eq_true rfl | (simp only [rm_X9_splitBy]; omega)) (by first | exact Nat.le_of_ble_eq_true rfl | (simp only [rm_X9_splitBy]; omega)) trivial
            · skip
              refine lv_bipush (v := nI 8) hx hb dX9_splitBy_33 (by decide) ?_
              refine lv_iload_n hx hb dX9_splitBy_35 rfl (lv_at hl 2 rfl) ?_
              refine N_ishr hx hb dX9_splitBy_36 (by omega) (by omega) ?_
              have hsz_ : 8 / 2 ^ i = szL i := by first | rfl | (unfold szL; congr 2; omega)
              rw [hsz_]
              have hz := szL_in (show i < 3 by omega)
              refine lv_istore_n (lv' := [(3, .int (nI (szL i))), (0, .ref h), (1, .int (nI L)), (2, .int (nI i))]) hx hb dX9_splitBy_37 rfl hl (by decide) rfl (fun ls hl => ?_)
              refine lv_iconst (v := nI 0) hx hb dX9_splitBy_38 (by decide) ?_
              refine lv_istore (lv' := [(4, .int (nI 0)), (3, .int (nI (szL i))), (0, .ref h), (1, .int (nI L)), (2, .int (nI i))]) hx hb dX9_splitBy_39 hl (by decide) rfl (fun ls hl => ?_)
              have lp_41 : ∀ (n_41 : Nat) (k : Nat) (lk : Nat → Int32), (k ≤ szL i) → (szL i - k) < n_41 → ∀ (H : Heap) (locs : List Loc) (ls : Array Slot), va_P G.1 vwCl [oM h ad thr sts hs len at_ num many, aI G (ad 1) 68 st, aI G (ad 5) 64 (rowS (splitP st i) (szL i) k), aI G (ad 7) 8 lk] H → va_D A [oM h ad thr sts hs len at_ num many, aI G (ad 1) 68 st, aI G (ad 5) 64 (rowS (splitP st i) (szL i) k), aI G (ad 7) 8 lk] → va_S A s.heap H locs → lv_has ls 5 [(0, .ref h), (1, .int (nI L)), (2, .int (nI i)), (3, .int (nI (szL i))), (4, .int (nI k))] → W p l e (rm_X9_splitBy) s m AR below meth c H locs 0 0 QQ (F0 m 41 ls []) := by
                intro n_41
                induction n_41 with
                | zero => intro k lk hk hn_; exact absurd hn_ (Nat.not_lt_zero _)
                | succ n_41 ih_41 =>
                  intro k lk hk hn_41 H locs ls hP hD hS hl
                  refine lv_iload hx hb dX9_splitBy_41 (lv_at hl 4 rfl) ?_
                  refine lv_iload_n hx hb dX9_splitBy_43 rfl (lv_at hl 3 rfl) ?_
                  refine N_icmp_ge (tgt := 64) hx hb dX9_splitBy_44 (by decide) (by omega) (by omega) (fun c_44 => ?_) (fun c_44 => ?_)
                  · skip
                    have ek_ : k = szL i := by omega
                    rw [ek_] at hP hD
                    have hl : lv_has ls 5 [(0, .ref h), (1, .int (nI L)), (2, .int (nI i)), (3, .int (nI (szL i)))] := lv_sub hl [0, 1, 2, 3] rfl
                    refine lv_iconst (v := nI 0) hx hb dX9_splitBy_64 (by decide) ?_
                    refine lv_istore (lv' := [(4, .int (nI 0)), (0, .ref h), (1, .int (nI L)), (2, .int (nI i)), (3, .int (nI (szL i)))]) hx hb dX9_splitBy_65 hl (by decide) rfl (fun ls hl => ?_)
                    have lp_67 : ∀ (n_67 : Nat) (k : Nat) (lk2 : Nat → Int32), (k ≤ szL i) → (szL i - k) < n_67 → ∀ (H : Heap) (locs : List Loc) (ls : Array Slot), va_P G.1 vwCl [oM h ad thr sts hs len at_ num many, aI G (ad 1) 68 st, aI G (ad 5) 64 (colS (rowS (splitP st i) (szL i) (szL i)) (szL i) k), aI G (ad 7) 8 lk2] H → va_D A [oM h ad thr sts hs len at_ num many, aI G (ad 1) 68 st, aI G (ad 5) 64 (colS (rowS (splitP st i) (szL i) (szL i)) (szL i) k), aI G (ad 7) 8 lk2] → va_S A s.heap H locs → lv_has ls 5 [(0, .ref h), (1, .int (nI L)), (2, .int (nI i)), (3, .int (nI (szL i))), (4, .int (nI k))] → W p l e (rm_X9_splitBy) s m AR below meth c H locs 0 0 QQ (F0 m 67 ls []) := by
                      intro n_67
                      induction n_67 with
                      | zero => intro k lk2 hk hn_; exact absurd hn_ (Nat.not_lt_zero _)
                      | succ n_67 ih_67 =>
                        intro k lk2 hk hn_67 H locs ls hP hD hS hl
                        refine lv_iload hx hb dX9_splitBy_67 (lv_at hl 4 rfl) ?_
                        refine lv_iload_n hx hb dX9_splitBy_69 rfl (lv_at hl 3 rfl) ?_
                        refine N_icmp_ge (tgt := 88) hx hb dX9_splitBy_70 (by decide) (by omega) (by omega) (fun c_70 => ?_) (fun c_70 => ?_)
                        · skip
                          have ek_ : k = szL i := by omega
                          rw [ek_] at hP hD
                          have hl : lv_has ls 5 [(0, .ref h), (1, .int (nI L)), (2, .int (nI i))] := lv_sub hl [0, 1, 2] rfl
                          refine N_iinc (a := i) (b := 1) (k9 := 2) (lv' := [(2, .int (nI (i + 1))), (0, .ref h), (1, .int (nI L))]) hx hb dX9_splitBy_88 hl rfl rfl (by decide) rfl (fun ls hl => ?_)
                          refine lv_goto (tgt := 28) hx hb dX9_splitBy_91 (by decide) ?_
                          have hP : va_P G.1 vwCl [oM h ad thr sts hs len at_ num many, aI G (ad 1) 68 st, aI G (ad 5) 64 (splitP st (i + 1)), aI G (ad 7) 8 lk2] _ := hP
                          have hD : va_D A [oM h ad thr sts hs len at_ num many, aI G (ad 1) 68 st, aI G (ad 5) 64 (splitP st (i + 1)), aI G (ad 7) 8 lk2] := hD
                          have hl : lv_has ls 5 [(0, .ref h), (1, .int (nI L)), (2, .int (nI (i + 1)))] := lv_sub hl [1, 2, 0] rfl
                          exact ih_28 (i + 1) lk2 (by omega) (by omega) _ _ _ hP hD hS hl
                        · skip
                          refine lv_aload_n hx hb dX9_splitBy_73 rfl (lv_at hl 0 rfl) ?_
                          refine lv_iload hx hb dX9_splitBy_74 (lv_at hl 4 rfl) ?_
                          refine lv_bipush (v := nI 8) hx hb dX9_splitBy_76 (by decide) ?_
                          refine lv_iload_n hx hb dX9_splitBy_78 rfl (lv_at hl 3 rfl) ?_
                          refine fin_v (ws' := (fun (u_2 : Nat → Int32) => [oM h ad thr sts hs len at_ num many, aI G (ad 1) 68 st, aI G (ad 5) 64 (spO (colS (rowS (splitP st i) (szL i) (szL i)) (szL i) k) k 8 (szL i)), aI G (ad 7) 8 u_2])) hA hS hP hD [0, 2, 3] rfl [(true, 0), (false, 1), (true, 1), (true, 2)] (fun _ => rfl) (by decide) (run_V (As := [.int (nI k), .int (nI 8), .int (nI (szL i))]) (rest := []) (n9 := 3) hx hb hml hown hts hE hAb hl.1 hS hP hD [0, 2, 3] rfl (by decide) (t_X9_splitLine l G b0 _ h ad thr sts hs len at_ num many (colS (rowS (splitP st i) (szL i) (szL i)) (szL i) k) lk2 k 8 (szL i) (by omega) (by omega) (by omega)) (lw_V q1785 q1787 qs66 q129 q1788) 0 rfl rfl ⟨rfl, by decide, by decide, by decide +kernel⟩ ⟨Nat.le_of_ble_eq_true rfl, Nat.le_of_ble_eq_true rfl⟩ ⟨by first | exact Nat.le_of_ble_eq_true rfl | (simp only [rm_X9_splitBy, rm_X9_splitLine]; omega), by first | exact Nat.le_of_ble_eq_true rfl | (simp only [rm_X9_splitBy, rm_X9_splitLine]; omega)⟩ dX9_splitBy_79 (Nat.le_of_ble_eq_true rfl) rfl rfl) (fun u_2 H locs h_2 hP hD hS => ?_)
                          have hP : va_P G.1 vwCl [oM h ad thr sts hs len at_ num many, aI G (ad 1) 68 st, aI G (ad 5) 64 (spO (colS (rowS (splitP st i) (szL i) (szL i)) (szL i) k) k 8 (szL i)), aI G (ad 7) 8 u_2] _ := hP
                          have hD : va_D A [oM h ad thr sts hs len at_ num many, aI G (ad 1) 68 st, aI G (ad 5) 64 (spO (colS (rowS (splitP st i) (szL i) (szL i)) (szL i) k) k 8 (szL i)), aI G (ad 7) 8 u_2] := hD
                          refine N_iinc (a := k) (b := 1) (k9 := 4) (lv' := [(4, .int (nI (k + 1))), (0, .ref h), (1, .int (nI L)), (2, .int (nI i)), (3, .int (nI (szL i)))]) hx hb dX9_splitBy_82 hl rfl rfl (by decide) rfl (fun ls hl => ?_)
                          refine lv_goto (tgt := 67) hx hb dX9_splitBy_85 (by decide) ?_
                          have hP : va_P G.1 vwCl [oM h ad thr sts hs len at_ num many, aI G (ad 1) 68 st, aI G (ad 5) 64 (colS (rowS (splitP st i) (szL i) (szL i)) (szL i) (k + 1)), aI G (ad 7) 8 u_2] _ := hP
                          have hD : va_D A [oM h ad thr sts hs len at_ num many, aI G (ad 1) 68 st, aI G (ad 5) 64 (colS (rowS (splitP st i) (szL i) (szL i)) (szL i) (k + 1)), aI G (ad 7) 8 u_2] := hD
                          have hl : lv_has ls 5 [(0, .ref h), (1, .int (nI L)), (2, .int (nI i)), (3, .int (nI (szL i))), (4, .int (nI (k + 1)))] := lv_sub hl [1, 2, 3, 4, 0] rfl
                          exact ih_67 (k + 1) u_2 (by omega) (by omega) _ _ _ hP hD hS hl
                    have hP : va_P G.1 vwCl [oM h ad thr sts hs len at_ num many, aI G (ad 1) 68 st, aI G (ad 5) 64 (colS (rowS (splitP st i) (szL i) (szL i)) (szL i) 0), aI G (ad 7) 8 lk] _ := hP
                    have hD : va_D A [oM h ad thr sts hs len at_ num many, aI G (ad 1) 68 st, aI G (ad 5) 64 (colS (rowS (splitP st i) (szL i) (szL i)) (szL i) 0), aI G (ad 7) 8 lk] := hD
                    have hl : lv_has ls 5 [(0, .ref h), (1, .int (nI L)), (2, .int (nI i)), (3, .int (nI (szL i))), (4, .int (nI 0))] := lv_sub hl [1, 2, 3, 4, 0] rfl
                    exact lp_67 _ 0 lk (by omega) (Nat.lt_succ_self _) _ _ _ hP hD hS hl
                  · skip
                    refine lv_aload_n hx hb dX9_splitBy_47 rfl (lv_at hl 0 rfl) ?_
                    refine lv_bipush (v := nI 8) hx hb dX9_splitBy_48 (by decide) ?_
                    refine lv_iload hx hb dX9_splitBy_50 (lv_at hl 4 rfl) ?_
                    refine N_imul hx hb dX9_splitBy_52 ?_
                    refine lv_iconst (v := nI 1) hx hb dX9_splitBy_53 (by decide) ?_
                    refine lv_iload_n hx hb dX9_splitBy_54 rfl (lv_at hl 3 rfl) ?_
                    refine fin_v (ws' := (fun (u_3 : Nat → Int32) => [oM h ad thr sts hs len at_ num many, aI G (ad 1) 68 st, aI G (ad 5) 64 (spO (rowS (splitP st i) (szL i) k) (8 * k) 1 (szL i)), aI G (ad 7) 8 u_3])) hA hS hP hD [0, 2, 3] rfl [(true, 0), (false, 1), (true, 1), (true, 2)] (fun _ => rfl) (by decide) (run_V (As := [.int (nI (8 * k)), .int (nI 1), .int (nI (szL i))]) (rest := []) (n9 := 3) hx hb hml hown hts hE hAb hl.1 hS hP hD [0, 2, 3] rfl (by decide) (t_X9_splitLine l G b0 _ h ad thr sts hs len at_ num many (rowS (splitP st i) (szL i) k) lk (8 * k) 1 (szL i) (by omega) (by omega) (by omega)) (lw_V q1785 q1787 qs66 q129 q1788) 0 rfl rfl ⟨rfl, by decide, by decide, by decide +kernel⟩ ⟨Nat.le_of_ble_eq_true rfl, Nat.le_of_ble_eq_true rfl⟩ ⟨by first | exact Nat.le_of_ble_eq_true rfl | (simp only [rm_X9_splitBy, rm_X9_splitLine]; omega), by first | exact Nat.le_of_ble_eq_true rfl | (simp only [rm_X9_splitBy, rm_X9_splitLine]; omega)⟩ dX9_splitBy_55 (Nat.le_of_ble_eq_true rfl) rfl rfl) (fun u_3 H locs h_3 hP hD hS => ?_)
                    have hP : va_P G.1 vwCl [oM h ad thr sts hs len at_ num many, aI G (ad 1) 68 st, aI G (ad 5) 64 (spO (rowS (splitP st i) (szL i) k) (8 * k) 1 (szL i)), aI G (ad 7) 8 u_3] _ := hP
                    have hD : va_D A [oM h ad thr sts hs len at_ num many, aI G (ad 1) 68 st, aI G (ad 5) 64 (spO (rowS (splitP st i) (szL i) k) (8 * k) 1 (szL i)), aI G (ad 7) 8 u_3] := hD
                    refine N_iinc (a := k) (b := 1) (k9 := 4) (lv' := [(4, .int (nI (k + 1))), (0, .ref h), (1, .int (nI L)), (2, .int (nI i)), (3, .int (nI (szL i)))]) hx hb dX9_splitBy_58 hl rfl rfl (by decide) rfl (fun ls hl => ?_)
                    refine lv_goto (tgt := 41) hx hb dX9_splitBy_61 (by decide) ?_
                    have hP : va_P G.1 vwCl [oM h ad thr sts hs len at_ num many, aI G (ad 1) 68 st, aI G (ad 5) 64 (rowS (splitP st i) (szL i) (k + 1)), aI G (ad 7) 8 u_3] _ := hP
                    have hD : va_D A [oM h ad thr sts hs len at_ num many, aI G (ad 1) 68 st, aI G (ad 5) 64 (rowS (splitP st i) (szL i) (k + 1)), aI G (ad 7) 8 u_3] := hD
                    have hl : lv_has ls 5 [(0, .ref h), (1, .int (nI L)), (2, .int (nI i)), (3, .int (nI (szL i))), (4, .int (nI (k + 1)))] := lv_sub hl [1, 2, 3, 4, 0] rfl
                    exact ih_41 (k + 1) u_3 (by omega) (by omega) _ _ _ hP hD hS hl
              have hP : va_P G.1 vwCl [oM h ad thr sts hs len at_ num many, aI G (ad 1) 68 st, aI G (ad 5) 64 (rowS (splitP st i) (szL i) 0), aI G (ad 7) 8 lx] _ := hP
              have hD : va_D A [oM h ad thr sts hs len at_ num many, aI G (ad 1) 68 st, aI G (ad 5) 64 (rowS (splitP st i) (szL i) 0), aI G (ad 7) 8 lx] := hD
              have hl : lv_has ls 5 [(0, .ref h), (1, .int (nI L)), (2, .int (nI i)), (3, .int (nI (szL i))), (4, .int (nI 0))] := lv_sub hl [2, 3, 4, 1, 0] rfl
              exact lp_41 _ 0 lx (by omega) (Nat.lt_succ_self _) _ _ _ hP hD hS hl
        have hl : lv_has ls 5 [(0, .ref h), (1, .int (nI L)), (2, .int (nI 0))] := lv_sub hl [1, 2, 0] rfl
        exact lp_28 _ 0 li (by omega) (Nat.lt_succ_self _) _ _ _ hP hD hS hl
      · skip
        refine lv_aload_n hx hb dX9_splitBy_8 rfl (lv_at hl 0 rfl) ?_
        refine va_get (D := G.1) (ci := 8) (v := .ref (ad 5)) (C := RX9) (T := TX9) (N := 21) hx hb hts in_X9 hown hK hP 0 rfl rfl 8 (by decide) (hts _ q1675) (fun _ h9 => h9) rfl dX9_splitBy_9 ?_
        refine lv_iload_n hx hb dX9_splitBy_12 rfl (lv_at hl 2 rfl) ?_
        refine lv_aload_n hx hb dX9_splitBy_13 rfl (lv_at hl 0 rfl) ?_
        refine va_get (D := G.1) (ci := 8) (v := .ref (ad 1)) (C := RX9) (T := TX9) (N := 21) hx hb hts in_X9 hown hK hP 0 rfl rfl 1 (by decide) (hts _ q1668) (fun _ h9 => h9) rfl dX9_splitBy_14 ?_
        refine lv_iload_n hx hb dX9_splitBy_17 rfl (lv_at hl 2 rfl) ?_
        refine N_iald hx hb dX9_splitBy_18 hK hP 1 0 rfl rfl (by omega) (by omega) ?_
        refine N_iast (ws' := [oM h ad thr sts hs len at_ num many, aI G (ad 1) 68 st, aI G (ad 5) 64 (upd (fillTo k st pa) k (st k)), aI G (ad 7) 8 li]) hx hb dX9_splitBy_19 hK hP hD hS 2 0 rfl rfl (by omega) (by omega) rfl (fun H locs hP hD hS => ?_)
        refine N_iinc (a := k) (b := 1) (k9 := 2) (lv' := [(2, .int (nI (k + 1))), (0, .ref h), (1, .int (nI L))]) hx hb dX9_splitBy_20 hl rfl rfl (by decide) rfl (fun ls hl => ?_)
        refine lv_goto (tgt := 2) hx hb dX9_splitBy_23 (by decide) ?_
        have e_4 : (upd (fillTo k st pa) k (st k)) = (fillTo (k + 1) st pa) := by exact fill_step
        have hP : va_P G.1 vwCl [oM h ad thr sts hs len at_ num many, aI G (ad 1) 68 st, aI G (ad 5) 64 (fillTo (k + 1) st pa), aI G (ad 7) 8 li] _ := cong_P (q0 := 2) (fun j _ => congrFun e_4 j) rfl rfl hP
        have hD : va_D A [oM h ad thr sts hs len at_ num many, aI G (ad 1) 68 st, aI G (ad 5) 64 (fillTo (k + 1) st pa), aI G (ad 7) 8 li] := cong_D (q0 := 2) rfl rfl hD
        have hP : va_P G.1 vwCl [oM h ad thr sts hs len at_ num many, aI G (ad 1) 68 st, aI G (ad 5) 64 (fillTo (k + 1) st pa), aI G (ad 7) 8 li] _ := hP
        have hD : va_D A [oM h ad thr sts hs len at_ num many, aI G (ad 1) 68 st, aI G (ad 5) 64 (fillTo (k + 1) st pa), aI G (ad 7) 8 li] := hD
        have hl : lv_has ls 5 [(0, .ref h), (1, .int (nI L)), (2, .int (nI (k + 1)))] := lv_sub hl [1, 2, 0] rfl
        exact ih_2 (k + 1) (by omega) (by omega) _ _ _ hP hD hS hl
  have e_5 : (pa) = (fillTo 0 st pa) := by exact (fill0 _ _).symm
  have hP : va_P G.1 vwCl [oM h ad thr sts hs len at_ num many, aI G (ad 1) 68 st, aI G (ad 5) 64 (fillTo 0 st pa), aI G (ad 7) 8 li] _ := cong_P (q0 := 2) (fun j _ => congrFun e_5 j) rfl rfl hP
  have hD : va_D A [oM h ad thr sts hs len at_ num many, aI G (ad 1) 68 st, aI G (ad 5) 64 (fillTo 0 st pa), aI G (ad 7) 8 li] := cong_D (q0 := 2) rfl rfl hD
  have hP : va_P G.1 vwCl [oM h ad thr sts hs len at_ num many, aI G (ad 1) 68 st, aI G (ad 5) 64 (fillTo 0 st pa), aI G (ad 7) 8 li] _ := hP
  have hD : va_D A [oM h ad thr sts hs len at_ num many, aI G (ad 1) 68 st, aI G (ad 5) 64 (fillTo 0 st pa), aI G (ad 7) 8 li] := hD
  have hl : lv_has ls 5 [(0, .ref h), (1, .int (nI L)), (2, .int (nI 0))] := lv_sub hl [1, 2, 0] rfl
  exact lp_2 _ 0 (by omega) (Nat.lt_succ_self _) _ _ _ hP hD hS hl
def rm_X9_split : Room := ({ frames := 2, cells := 0, slots := 0, locals := 51 } : Room)
set_option maxHeartbeats 400000 in
set_option maxRecDepth 100000 in
theorem t_X9_split (l : Launch) (G : GG) (b0 sz : Nat) (h : Nat) (ad : Nat → Nat) (thr sts : Nat) (hs : Bool) (len at_ num many : Nat) (st pa li : Nat → Int32) (L : Nat) (hL1 : 1 ≤ L) (hL : L ≤ 3) (hst : st 64 = nI L) : CT l yX9_split cX9_split 1 none (rm_X9_split) G b0 [.ref h] [oM h ad thr sts hs len at_ num many, aI G (ad 1) 68 st, aI G (ad 5) 64 pa, aI G (ad 7) 8 li] sz (Rv G (fun (u : Nat → Int32) => True) (fun (u : Nat → Int32) => [oM h ad thr sts hs len at_ num many, aI G (ad 1) 68 st, aI G (ad 5) 64 (splitP st L), aI G (ad 7) 8 u])) := by
  refine CT.go (by decide) (Nat.le_of_ble_eq_true rfl) (fun p e s m below meth c A ls AR QQ hx hb hr hlk hml hown hnm hts hE hA hAb hsz hP hD hS hl hQQ => ?_)
  have hK := hE.1
  have hown : s.vm.findClass RX9 = some m.cls := hown
  have hl : lv_has ls 1 [(0, .ref h)] := hl
  clear hsz
  refine lv_aload_n hx hb dX9_split_0 rfl (lv_at hl 0 rfl) ?_
  refine lv_aload_n hx hb dX9_split_1 rfl (lv_at hl 0 rfl) ?_
  refine va_get (D := G.1) (ci := 8) (v := .ref (ad 1)) (C := RX9) (T := TX9) (N := 21) hx hb hts in_X9 hown hK hP 0 rfl rfl 1 (by decide) (hts _ q1668) (fun _ h9 => h9) rfl dX9_split_2 ?_
  refine lv_bipush (v := nI 64) hx hb dX9_split_5 (by decide) ?_
  refine N_iald hx hb dX9_split_7 hK hP 1 0 rfl rfl (by omega) (by omega) ?_
  refine top_i (y := nI L) (hst) ?_
  refine fin_v (ws' := (fun (u_1 : Nat → Int32) => [oM h ad thr sts hs len at_ num many, aI G (ad 1) 68 st, aI G (ad 5) 64 (splitP st L), aI G (ad 7) 8 u_1])) hA hS hP hD [0, 1, 2, 3] rfl [(true, 0), (true, 1), (true, 2), (true, 3)] (fun _ => rfl) (by decide) (run_V (As := [.int (nI L)]) (rest := []) (n9 := 1) hx hb hml hown hts hE hAb hl.1 hS hP hD [0, 1, 2, 3] rfl (by decide) (t_X9_splitBy l G b0 _ h ad thr sts hs len at_ num many st pa li L (by omega)) (lw_V q1781 q1783 qs65 q129 q1784) 0 rfl rfl ⟨rfl, by decide, by decide, by decide +kernel⟩ ⟨Nat.le_of_ble_eq_true rfl, Nat.le_of_ble_eq_true rfl⟩ ⟨by first | exact Nat.le_of_ble_eq_true rfl | (simp only [rm_X9_split, rm_X9_splitBy]; omega), by first | exact Nat.le_of_ble_eq_true rfl | (simp only [rm_X9_split, rm_X9_splitBy]; omega)⟩ dX9_split_8 (Nat.le_of_ble_eq_true rfl) rfl rfl) (fun u_1 H locs h_1 hP hD hS => ?_)
  have hP : va_P G.1 vwCl [oM h ad thr sts hs len at_ num many, aI G (ad 1) 68 st, aI G (ad 5) 64 (splitP st L), aI G (ad 7) 8 u_1] _ := hP
  have hD : va_D A [oM h ad thr sts hs len at_ num many, aI G (ad 1) 68 st, aI G (ad 5) 64 (splitP st L), aI G (ad 7) 8 u_1] := hD
  rw [hQQ]
  exact rt_v hx hb hr hlk u_1 dX9_split_11 hP hD hS (by first | exact Nat.le_of_ble_eq_true rfl | (simp only [rm_X9_split]; omega)) (by first | exact Nat.le_of_ble_eq_true rfl | (simp only [rm_X9_split]; omega)) trivial
def rm_X9_joinBack : Room := ({ frames := 1, cells := 0, slots := 0, locals := 27 } : Room)
set_option maxHeartbeats 400000 in
set_option maxRecDepth 100000 in
theorem t_X9_joinBack (l : Launch) (G : GG) (b0 sz : Nat) (h : Nat) (ad : Nat → Nat) (thr sts : Nat) (hs : Bool) (len at_ num many : Nat) (st pa bk li : Nat → Int32) (L : Nat) (hL1 : 1 ≤ L) (hL : L ≤ 3) (hst : st 64 = nI L) : CT l yX9_joinBack cX9_joinBack 4 none (rm_X9_joinBack) G b0 [.ref h] [oM h ad thr sts hs len at_ num many, aI G (ad 1) 68 st, aI G (ad 5) 64 pa, aI G (ad 6) 64 bk, aI G (ad 7) 8 li] sz (Rv G (fun (u : Nat → Int32) => True) (fun (u : Nat → Int32) => [oM h ad thr sts hs len at_ num many, aI G (ad 1) 68 st, aI G (ad 5) 64 pa, aI G (ad 6) 64 (joinP L pa), aI G (ad 7) 8 u])) := by
  refine CT.go (by decide) (Nat.le_of_ble_eq_true rfl) (fun p e s m below meth c A ls AR QQ hx hb hr hlk hml hown hnm hts hE hA hAb hsz hP hD hS hl hQQ => ?_)
  have hK := hE.1
  have hown : s.vm.findClass RX9 = some m.cls := hown
  have hl : lv_has ls 4 [(0, .ref h)] := hl
  clear hsz
  refine lv_iconst (v := nI 0) hx hb dX9_joinBack_0 (by decide) ?_
  refine lv_istore_n (lv' := [(1, .int (nI 0)), (0, .ref h)]) hx hb dX9_joinBack_1 rfl hl (by decide) rfl (fun ls hl => ?_)
  have lp_2 : ∀ (n_2 : Nat) (k : Nat), (k ≤ 64) → (64 - k) < n_2 → ∀ (H : Heap) (locs : List Loc) (ls : Array Slot), va_P G.1 vwCl [oM h ad thr sts hs len at_ num many, aI G (ad 1) 68 st, aI G (ad 5) 64 pa, aI G (ad 6) 64 (fillTo k pa bk), aI G (ad 7) 8 li] H → va_D A [oM h ad thr sts hs len at_ num many, aI G (ad 1) 68 st, aI G (ad 5) 64 pa, aI G (ad 6) 64 (fillTo k pa bk), aI G (ad 7) 8 li] → va_S A s.heap H locs → lv_has ls 4 [(0, .ref h), (1, .int (nI k))] → W p l e (rm_X9_joinBack) s m AR below meth c H locs 0 0 QQ (F0 m 2 ls []) := by
    intro n_2
    induction n_2 with
    | zero => intro k hk hn_; exact absurd hn_ (Nat.not_lt_zero _)
    | succ n_2 ih_2 =>
      intro k hk hn_2 H locs ls hP hD hS hl
      refine lv_iload_n hx hb dX9_joinBack_2 rfl (lv_at hl 1 rfl) ?_
      refine lv_bipush (v := nI 64) hx hb dX9_joinBack_3 (by decide) ?_
      refine N_icmp_ge (tgt := 26) hx hb dX9_joinBack_5 (by decide) (by omega) (by omega) (fun c_5 => ?_) (fun c_5 => ?_)
      · skip
        obtain rfl : k = 64 := by omega
        have e_1 : ∀ j, j < 64 → (fillTo 64 pa bk) j = (pa) j := by exact fill_pt
        have hP : va_P G.1 vwCl [oM h ad thr sts hs len at_ num many, aI G (ad 1) 68 st, aI G (ad 5) 64 pa, aI G (ad 6) 64 pa, aI G (ad 7) 8 li] _ := cong_P (q0 := 3) e_1 rfl rfl hP
        have hD : va_D A [oM h ad thr sts hs len at_ num many, aI G (ad 1) 68 st, aI G (ad 5) 64 pa, aI G (ad 6) 64 pa, aI G (ad 7) 8 li] := cong_D (q0 := 3) rfl rfl hD
        have hP : va_P G.1 vwCl [oM h ad thr sts hs len at_ num many, aI G (ad 1) 68 st, aI G (ad 5) 64 pa, aI G (ad 6) 64 pa, aI G (ad 7) 8 li] _ := hP
        have hD : va_D A [oM h ad thr sts hs len at_ num many, aI G (ad 1) 68 st, aI G (ad 5) 64 pa, aI G (ad 6) 64 pa, aI G (ad 7) 8 li] := hD
        refine lv_aload_n hx hb dX9_joinBack_26 rfl (lv_at hl 0 rfl) ?_
        refine va_get (D := G.1) (ci := 8) (v := .ref (ad 1)) (C := RX9) (T := TX9) (N := 21) hx hb hts in_X9 hown hK hP 0 rfl rfl 1 (by decide) (hts _ q1668) (fun _ h9 => h9) rfl dX9_joinBack_27 ?_
        refine lv_bipush (v := nI 64) hx hb dX9_joinBack_30 (by decide) ?_
        refine N_iald hx hb dX9_joinBack_32 hK hP 1 0 rfl rfl (by omega) (by omega) ?_
        refine top_i (y := nI L) (hst) ?_
        refine lv_iconst (v := nI 1) hx hb dX9_joinBack_33 (by decide) ?_
        refine lv_isub hx hb dX9_joinBack_34 ?_
        refine lv_istore_n (lv' := [(1, .int ((nI L) - (nI 1))), (0, .ref h)]) hx hb dX9_joinBack_35 rfl hl (by decide) rfl (fun ls hl => ?_)
        have lp_36 : ∀ (n_36 : Nat) (i : Nat) (lx fx : Nat → Int32), (i ≤ L) → (joinP i fx = joinP L pa) → (i) < n_36 → ∀ (H : Heap) (locs : List Loc) (ls : Array Slot), va_P G.1 vwCl [oM h ad thr sts hs len at_ num many, aI G (ad 1) 68 st, aI G (ad 5) 64 pa, aI G (ad 6) 64 fx, aI G (ad 7) 8 lx] H → va_D A [oM h ad thr sts hs len at_ num many, aI G (ad 1) 68 st, aI G (ad 5) 64 pa, aI G (ad 6) 64 fx, aI G (ad 7) 8 lx] → va_S A s.heap H locs → lv_has ls 4 [(0, .ref h), (1, .int (nI i - nI 1))] → W p l e (rm_X9_joinBack) s m AR below meth c H locs 0 0 QQ (F0 m 36 ls []) := by
          intro n_36
          induction n_36 with
          | zero => intro i lx fx hi hj hn_; exact absurd hn_ (Nat.not_lt_zero _)
          | succ n_36 ih_36 =>
            intro i lx fx hi hj hn_36 H locs ls hP hD hS hl
            refine lv_iload_n hx hb dX9_joinBack_36 rfl (lv_at hl 1 rfl) ?_
            refine lv_if_lt (tgt := 95) hx hb dX9_joinBack_37 (by decide) (fun c_37 => ?_) (fun c_37 => ?_)
            · skip
              have hi0 := dm1_neg (by omega) c_37
              rw [hi0] at hj
              have e_2 : (fx) = (joinP L pa) := by exact hj
              have hP : va_P G.1 vwCl [oM h ad thr sts hs len at_ num many, aI G (ad 1) 68 st, aI G (ad 5) 64 pa, aI G (ad 6) 64 (joinP L pa), aI G (ad 7) 8 lx] _ := cong_P (q0 := 3) (fun j _ => congrFun e_2 j) rfl rfl hP
              have hD : va_D A [oM h ad thr sts hs len at_ num many, aI G (ad 1) 68 st, aI G (ad 5) 64 pa, aI G (ad 6) 64 (joinP L pa), aI G (ad 7) 8 lx] := cong_D (q0 := 3) rfl rfl hD
              have hP : va_P G.1 vwCl [oM h ad thr sts hs len at_ num many, aI G (ad 1) 68 st, aI G (ad 5) 64 pa, aI G (ad 6) 64 (joinP L pa), aI G (ad 7) 8 lx] _ := hP
              have hD : va_D A [oM h ad thr sts hs len at_ num many, aI G (ad 1) 68 st, aI G (ad 5) 64 pa, aI G (ad 6) 64 (joinP L pa), aI G (ad 7) 8 lx] := hD
              rw [hQQ]
              exact rt_v hx hb hr hlk lx dX9_joinBack_95 hP hD hS (by first | exact Nat.le_of_ble_eq_true rfl | (simp only [rm_X9_joinBack]; omega)) (by first | exact Nat.le_of_ble_eq_true rfl | (simp only [rm_X9_joinBack]; omega)) trivial
            · skip
              have hi1_ : 1 ≤ i := dm1_pos c_37
              rw [pk_sub hi1_] at hl
              have hl : lv_has ls 4 [(0, .ref h), (1, .int (nI (i - 1)))] := hl
              refine lv_bipush (v := nI 8) hx hb dX9_joinBack_40 (by decide) ?_
              refine lv_iload_n hx hb dX9_joinBack_42 rfl (lv_at hl 1 rfl) ?_
              refine N_ishr hx hb dX9_joinBack_43 (by omega) (by omega) ?_
              have hsz_ : 8 / 2 ^ (i - 1) = szL (i - 1) := by first | rfl | (unfold szL; congr 2; omega)
              rw [hsz_]
              have hz := szL_in (show i - 1 < 3 by omega)
              refine lv_istore_n (lv' := [(2, .int (nI (szL (i - 1)))), (0, .ref h), (1, .int (nI (i - 1)))]) hx hb dX9_joinBack_44 rfl hl (by decide) rfl (fun ls hl => ?_)
              refine lv_iconst (v := nI 0) hx hb dX9_joinBack_45 (by decide) ?_
              refine lv_istore_n (lv' := [(3, .int (nI 0)), (2, .int (nI (szL (i - 1)))), (0, .ref h), (1, .int (nI (i - 1)))]) hx hb dX9_joinBack_46 rfl hl (by decide) rfl (fun ls hl => ?_)
              have lp_47 : ∀ (n_47 : Nat) (k : Nat) (lk : Nat → Int32), (k ≤ szL (i - 1)) → (szL (i - 1) - k) < n_47 → ∀ (H : Heap) (locs : List Loc) (ls : Array Slot), va_P G.1 vwCl [oM h ad thr sts hs len at_ num many, aI G (ad 1) 68 st, aI G (ad 5) 64 pa, aI G (ad 6) 64 (colJ fx (szL (i - 1)) k), aI G (ad 7) 8 lk] H → va_D A [oM h ad thr sts hs len at_ num many, aI G (ad 1) 68 st, aI G (ad 5) 64 pa, aI G (ad 6) 64 (colJ fx (szL (i - 1)) k), aI G (ad 7) 8 lk] → va_S A s.heap H locs → lv_has ls 4 [(0, .ref h), (1, .int (nI (i - 1))), (2, .int (nI (szL (i - 1)))), (3, .int (nI k))] → W p l e (rm_X9_joinBack) s m AR below meth c H locs 0 0 QQ (F0 m 47 ls []) := by
                intro n_47
                induction n_47 with
                | zero => intro k lk hk hn_; exact absurd hn_ (Nat.not_lt_zero _)
                | succ n_47 ih_47 =>
                  intro k lk hk hn_47 H locs ls hP hD hS hl
                  refine lv_iload_n hx hb dX9_joinBack_47 rfl (lv_at hl 3 rfl) ?_
                  refine lv_iload_n hx hb dX9_joinBack_48 rfl (lv_at hl 2 rfl) ?_
                  refine N_icmp_ge (tgt := 66) hx hb dX9_joinBack_49 (by decide) (by omega) (by omega) (fun c_49 => ?_) (fun c_49 => ?_)
                  · skip
                    have ek_ : k = szL (i - 1) := by omega
                    rw [ek_] at hP hD
                    have hl : lv_has ls 4 [(0, .ref h), (1, .int (nI (i - 1))), (2, .int (nI (szL (i - 1))))] := lv_sub hl [0, 1, 2] rfl
                    refine lv_iconst (v := nI 0) hx hb dX9_joinBack_66 (by decide) ?_
                    refine lv_istore_n (lv' := [(3, .int (nI 0)), (0, .ref h), (1, .int (nI (i - 1))), (2, .int (nI (szL (i - 1))))]) hx hb dX9_joinBack_67 rfl hl (by decide) rfl (fun ls hl => ?_)
                    have lp_68 : ∀ (n_68 : Nat) (k : Nat) (lk2 : Nat → Int32), (k ≤ szL (i - 1)) → (szL (i - 1) - k) < n_68 → ∀ (H : Heap) (locs : List Loc) (ls : Array Slot), va_P G.1 vwCl [oM h ad thr sts hs len at_ num many, aI G (ad 1) 68 st, aI G (ad 5) 64 pa, aI G (ad 6) 64 (rowJ (colJ fx (szL (i - 1)) (szL (i - 1))) (szL (i - 1)) k), aI G (ad 7) 8 lk2] H → va_D A [oM h ad thr sts hs len at_ num many, aI G (ad 1) 68 st, aI G (ad 5) 64 pa, aI G (ad 6) 64 (rowJ (colJ fx (szL (i - 1)) (szL (i - 1))) (szL (i - 1)) k), aI G (ad 7) 8 lk2] → va_S A s.heap H locs → lv_has ls 4 [(0, .ref h), (1, .int (nI (i - 1))), (2, .int (nI (szL (i - 1)))), (3, .int (nI k))] → W p l e (rm_X9_joinBack) s m AR below meth c H locs 0 0 QQ (F0 m 68 ls []) := by
                      intro n_68
                      induction n_68 with
                      | zero => intro k lk2 hk hn_; exact absurd hn_ (Nat.not_lt_zero _)
                      | succ n_68 ih_68 =>
                        intro k lk2 hk hn_68 H locs ls hP hD hS hl
                        refine lv_iload_n hx hb dX9_joinBack_68 rfl (lv_at hl 3 rfl) ?_
                        refine lv_iload_n hx hb dX9_joinBack_69 rfl (lv_at hl 2 rfl) ?_
                        refine N_icmp_ge (tgt := 89) hx hb dX9_joinBack_70 (by decide) (by omega) (by omega) (fun c_70 => ?_) (fun c_70 => ?_)
                        · skip
                          have ek_ : k = szL (i - 1) := by omega
                          rw [ek_] at hP hD
                          have hl : lv_has ls 4 [(0, .ref h), (1, .int (nI (i - 1))), (2, .int (nI (szL (i - 1))))] := lv_sub hl [0, 1, 2] rfl
                          have hi1 : i = (i - 1) + 1 := by omega
                          refine lv_iinc (v := (nI (i - 1)) + (-1)) (k := 1) (lv' := [(1, .int ((nI (i - 1)) + (-1))), (0, .ref h), (2, .int (nI (szL (i - 1))))]) hx hb dX9_joinBack_89 hl rfl rfl (by decide) rfl (fun ls hl => ?_)
                          refine lv_goto (tgt := 36) hx hb dX9_joinBack_92 (by decide) ?_
                          have hl : lv_has ls 4 [(0, .ref h), (1, .int ((nI (i - 1)) + (-1)))] := lv_sub hl [1, 0] rfl
                          have e_3 : ((nI (i - 1)) + (-1)) = (nI (i - 1) - nI 1) := by exact (Int32.sub_eq_add_neg _ _).symm
                          rw [e_3] at hl
                          have hl : lv_has ls 4 [(0, .ref h), (1, .int (nI (i - 1) - nI 1))] := hl
                          exact ih_36 (i - 1) lk2 (rowJ (colJ fx (szL (i - 1)) (szL (i - 1))) (szL (i - 1)) (szL (i - 1))) (by omega) (by rw [← hj, hi1]; rfl) (by omega) _ _ _ hP hD hS hl
                        · skip
                          refine lv_aload_n hx hb dX9_joinBack_73 rfl (lv_at hl 0 rfl) ?_
                          refine lv_bipush (v := nI 8) hx hb dX9_joinBack_74 (by decide) ?_
                          refine lv_iload_n hx hb dX9_joinBack_76 rfl (lv_at hl 3 rfl) ?_
                          refine N_imul hx hb dX9_joinBack_77 ?_
                          refine lv_iconst (v := nI 1) hx hb dX9_joinBack_78 (by decide) ?_
                          refine lv_iload_n hx hb dX9_joinBack_79 rfl (lv_at hl 2 rfl) ?_
                          refine fin_v (ws' := (fun (u_4 : Nat → Int32) => [oM h ad thr sts hs len at_ num many, aI G (ad 1) 68 st, aI G (ad 5) 64 pa, aI G (ad 6) 64 (joO (rowJ (colJ fx (szL (i - 1)) (szL (i - 1))) (szL (i - 1)) k) (8 * k) 1 (szL (i - 1))), aI G (ad 7) 8 u_4])) hA hS hP hD [0, 3, 4] rfl [(true, 0), (false, 1), (false, 2), (true, 1), (true, 2)] (fun _ => rfl) (by decide) (run_V (As := [.int (nI (8 * k)), .int (nI 1), .int (nI (szL (i - 1)))]) (rest := []) (n9 := 3) hx hb hml hown hts hE hAb hl.1 hS hP hD [0, 3, 4] rfl (by decide) (t_X9_joinLine l G b0 _ h ad thr sts hs len at_ num many (rowJ (colJ fx (szL (i - 1)) (szL (i - 1))) (szL (i - 1)) k) lk2 (8 * k) 1 (szL (i - 1)) (by omega) (by omega) (by omega)) (lw_V q1818 q1820 qs71 q129 q1821) 0 rfl rfl ⟨rfl, by decide, by decide, by decide +kernel⟩ ⟨Nat.le_of_ble_eq_true rfl, Nat.le_of_ble_eq_true rfl⟩ ⟨by first | exact Nat.le_of_ble_eq_true rfl | (simp only [rm_X9_joinBack, rm_X9_joinLine]; omega), by first | exact Nat.le_of_ble_eq_true rfl | (simp only [rm_X9_joinBack, rm_X9_joinLine]; omega)⟩ dX9_joinBack_80 (Nat.le_of_ble_eq_true rfl) rfl rfl) (fun u_4 H locs h_4 hP hD hS => ?_)
                          have hP : va_P G.1 vwCl [oM h ad thr sts hs len at_ num many, aI G (ad 1) 68 st, aI G (ad 5) 64 pa, aI G (ad 6) 64 (joO (rowJ (colJ fx (szL (i - 1)) (szL (i - 1))) (szL (i - 1)) k) (8 * k) 1 (szL (i - 1))), aI G (ad 7) 8 u_4] _ := hP
                          have hD : va_D A [oM h ad thr sts hs len at_ num many, aI G (ad 1) 68 st, aI G (ad 5) 64 pa, aI G (ad 6) 64 (joO (rowJ (colJ fx (szL (i - 1)) (szL (i - 1))) (szL (i - 1)) k) (8 * k) 1 (szL (i - 1))), aI G (ad 7) 8 u_4] := hD
                          refine N_iinc (a := k) (b := 1) (k9 := 3) (lv' := [(3, .int (nI (k + 1))), (0, .ref h), (1, .int (nI (i - 1))), (2, .int (nI (szL (i - 1))))]) hx hb dX9_joinBack_83 hl rfl rfl (by decide) rfl (fun ls hl => ?_)
                          refine lv_goto (tgt := 68) hx hb dX9_joinBack_86 (by decide) ?_
                          have hP : va_P G.1 vwCl [oM h ad thr sts hs len at_ num many, aI G (ad 1) 68 st, aI G (ad 5) 64 pa, aI G (ad 6) 64 (rowJ (colJ fx (szL (i - 1)) (szL (i - 1))) (szL (i - 1)) (k + 1)), aI G (ad 7) 8 u_4] _ := hP
                          have hD : va_D A [oM h ad thr sts hs len at_ num many, aI G (ad 1) 68 st, aI G (ad 5) 64 pa, aI G (ad 6) 64 (rowJ (colJ fx (szL (i - 1)) (szL (i - 1))) (szL (i - 1)) (k + 1)), aI G (ad 7) 8 u_4] := hD
                          have hl : lv_has ls 4 [(0, .ref h), (1, .int (nI (i - 1))), (2, .int (nI (szL (i - 1)))), (3, .int (nI (k + 1)))] := lv_sub hl [1, 2, 3, 0] rfl
                          exact ih_68 (k + 1) u_4 (by omega) (by omega) _ _ _ hP hD hS hl
                    have hP : va_P G.1 vwCl [oM h ad thr sts hs len at_ num many, aI G (ad 1) 68 st, aI G (ad 5) 64 pa, aI G (ad 6) 64 (rowJ (colJ fx (szL (i - 1)) (szL (i - 1))) (szL (i - 1)) 0), aI G (ad 7) 8 lk] _ := hP
                    have hD : va_D A [oM h ad thr sts hs len at_ num many, aI G (ad 1) 68 st, aI G (ad 5) 64 pa, aI G (ad 6) 64 (rowJ (colJ fx (szL (i - 1)) (szL (i - 1))) (szL (i - 1)) 0), aI G (ad 7) 8 lk] := hD
                    have hl : lv_has ls 4 [(0, .ref h), (1, .int (nI (i - 1))), (2, .int (nI (szL (i - 1)))), (3, .int (nI 0))] := lv_sub hl [1, 2, 3, 0] rfl
                    exact lp_68 _ 0 lk (by omega) (Nat.lt_succ_self _) _ _ _ hP hD hS hl
                  · skip
                    refine lv_aload_n hx hb dX9_joinBack_52 rfl (lv_at hl 0 rfl) ?_
                    refine lv_iload_n hx hb dX9_joinBack_53 rfl (lv_at hl 3 rfl) ?_
                    refine lv_bipush (v := nI 8) hx hb dX9_joinBack_54 (by decide) ?_
                    refine lv_iload_n hx hb dX9_joinBack_56 rfl (lv_at hl 2 rfl) ?_
                    refine fin_v (ws' := (fun (u_5 : Nat → Int32) => [oM h ad thr sts hs len at_ num many, aI G (ad 1) 68 st, aI G (ad 5) 64 pa, aI G (ad 6) 64 (joO (colJ fx (szL (i - 1)) k) k 8 (szL (i - 1))), aI G (ad 7) 8 u_5])) hA hS hP hD [0, 3, 4] rfl [(true, 0), (false, 1), (false, 2), (true, 1), (true, 2)] (fun _ => rfl) (by decide) (run_V (As := [.int (nI k), .int (nI 8), .int (nI (szL (i - 1)))]) (rest := []) (n9 := 3) hx hb hml hown hts hE hAb hl.1 hS hP hD [0, 3, 4] rfl (by decide) (t_X9_joinLine l G b0 _ h ad thr sts hs len at_ num many (colJ fx (szL (i - 1)) k) lk k 8 (szL (i - 1)) (by omega) (by omega) (by omega)) (lw_V q1818 q1820 qs71 q129 q1821) 0 rfl rfl ⟨rfl, by decide, by decide, by decide +kernel⟩ ⟨Nat.le_of_ble_eq_true rfl, Nat.le_of_ble_eq_true rfl⟩ ⟨by first | exact Nat.le_of_ble_eq_true rfl | (simp only [rm_X9_joinBack, rm_X9_joinLine]; omega), by first | exact Nat.le_of_ble_eq_true rfl | (simp only [rm_X9_joinBack, rm_X9_joinLine]; omega)⟩ dX9_joinBack_57 (Nat.le_of_ble_eq_true rfl) rfl rfl) (fun u_5 H locs h_5 hP hD hS => ?_)
                    have hP : va_P G.1 vwCl [oM h ad thr sts hs len at_ num many, aI G (ad 1) 68 st, aI G (ad 5) 64 pa, aI G (ad 6) 64 (joO (colJ fx (szL (i - 1)) k) k 8 (szL (i - 1))), aI G (ad 7) 8 u_5] _ := hP
                    have hD : va_D A [oM h ad thr sts hs len at_ num many, aI G (ad 1) 68 st, aI G (ad 5) 64 pa, aI G (ad 6) 64 (joO (colJ fx (szL (i - 1)) k) k 8 (szL (i - 1))), aI G (ad 7) 8 u_5] := hD
                    refine N_iinc (a := k) (b := 1) (k9 := 3) (lv' := [(3, .int (nI (k + 1))), (0, .ref h), (1, .int (nI (i - 1))), (2, .int (nI (szL (i - 1))))]) hx hb dX9_joinBack_60 hl rfl rfl (by decide) rfl (fun ls hl => ?_)
                    refine lv_goto (tgt := 47) hx hb dX9_joinBack_63 (by decide) ?_
                    have hP : va_P G.1 vwCl [oM h ad thr sts hs len at_ num many, aI G (ad 1) 68 st, aI G (ad 5) 64 pa, aI G (ad 6) 64 (colJ fx (szL (i - 1)) (k + 1)), aI G (ad 7) 8 u_5] _ := hP
                    have hD : va_D A [oM h ad thr sts hs len at_ num many, aI G (ad 1) 68 st, aI G (ad 5) 64 pa, aI G (ad 6) 64 (colJ fx (szL (i - 1)) (k + 1)), aI G (ad 7) 8 u_5] := hD
                    have hl : lv_has ls 4 [(0, .ref h), (1, .int (nI (i - 1))), (2, .int (nI (szL (i - 1)))), (3, .int (nI (k + 1)))] := lv_sub hl [1, 2, 3, 0] rfl
                    exact ih_47 (k + 1) u_5 (by omega) (by omega) _ _ _ hP hD hS hl
              have hP : va_P G.1 vwCl [oM h ad thr sts hs len at_ num many, aI G (ad 1) 68 st, aI G (ad 5) 64 pa, aI G (ad 6) 64 (colJ fx (szL (i - 1)) 0), aI G (ad 7) 8 lx] _ := hP
              have hD : va_D A [oM h ad thr sts hs len at_ num many, aI G (ad 1) 68 st, aI G (ad 5) 64 pa, aI G (ad 6) 64 (colJ fx (szL (i - 1)) 0), aI G (ad 7) 8 lx] := hD
              have hl : lv_has ls 4 [(0, .ref h), (1, .int (nI (i - 1))), (2, .int (nI (szL (i - 1)))), (3, .int (nI 0))] := lv_sub hl [2, 3, 1, 0] rfl
              exact lp_47 _ 0 lx (by omega) (Nat.lt_succ_self _) _ _ _ hP hD hS hl
        have hl : lv_has ls 4 [(0, .ref h), (1, .int ((nI L) - (nI 1)))] := lv_sub hl [1, 0] rfl
        have e_6 : ((nI L) - (nI 1)) = (nI L - nI 1) := by rfl
        rw [e_6] at hl
        have hl : lv_has ls 4 [(0, .ref h), (1, .int (nI L - nI 1))] := hl
        exact lp_36 _ L li pa (by omega) (by rfl) (Nat.lt_succ_self _) _ _ _ hP hD hS hl
      · skip
        refine lv_aload_n hx hb dX9_joinBack_8 rfl (lv_at hl 0 rfl) ?_
        refine va_get (D := G.1) (ci := 8) (v := .ref (ad 6)) (C := RX9) (T := TX9) (N := 21) hx hb hts in_X9 hown hK hP 0 rfl rfl 9 (by decide) (hts _ q1676) (fun _ h9 => h9) rfl dX9_joinBack_9 ?_
        refine lv_iload_n hx hb dX9_joinBack_12 rfl (lv_at hl 1 rfl) ?_
        refine lv_aload_n hx hb dX9_joinBack_13 rfl (lv_at hl 0 rfl) ?_
        refine va_get (D := G.1) (ci := 8) (v := .ref (ad 5)) (C := RX9) (T := TX9) (N := 21) hx hb hts in_X9 hown hK hP 0 rfl rfl 8 (by decide) (hts _ q1675) (fun _ h9 => h9) rfl dX9_joinBack_14 ?_
        refine lv_iload_n hx hb dX9_joinBack_17 rfl (lv_at hl 1 rfl) ?_
        refine N_iald hx hb dX9_joinBack_18 hK hP 2 0 rfl rfl (by omega) (by omega) ?_
        refine N_iast (ws' := [oM h ad thr sts hs len at_ num many, aI G (ad 1) 68 st, aI G (ad 5) 64 pa, aI G (ad 6) 64 (upd (fillTo k pa bk) k (pa k)), aI G (ad 7) 8 li]) hx hb dX9_joinBack_19 hK hP hD hS 3 0 rfl rfl (by omega) (by omega) rfl (fun H locs hP hD hS => ?_)
        refine N_iinc (a := k) (b := 1) (k9 := 1) (lv' := [(1, .int (nI (k + 1))), (0, .ref h)]) hx hb dX9_joinBack_20 hl rfl rfl (by decide) rfl (fun ls hl => ?_)
        refine lv_goto (tgt := 2) hx hb dX9_joinBack_23 (by decide) ?_
        have e_7 : (upd (fillTo k pa bk) k (pa k)) = (fillTo (k + 1) pa bk) := by exact fill_step
        have hP : va_P G.1 vwCl [oM h ad thr sts hs len at_ num many, aI G (ad 1) 68 st, aI G (ad 5) 64 pa, aI G (ad 6) 64 (fillTo (k + 1) pa bk), aI G (ad 7) 8 li] _ := cong_P (q0 := 3) (fun j _ => congrFun e_7 j) rfl rfl hP
        have hD : va_D A [oM h ad thr sts hs len at_ num many, aI G (ad 1) 68 st, aI G (ad 5) 64 pa, aI G (ad 6) 64 (fillTo (k + 1) pa bk), aI G (ad 7) 8 li] := cong_D (q0 := 3) rfl rfl hD
        have hP : va_P G.1 vwCl [oM h ad thr sts hs len at_ num many, aI G (ad 1) 68 st, aI G (ad 5) 64 pa, aI G (ad 6) 64 (fillTo (k + 1) pa bk), aI G (ad 7) 8 li] _ := hP
        have hD : va_D A [oM h ad thr sts hs len at_ num many, aI G (ad 1) 68 st, aI G (ad 5) 64 pa, aI G (ad 6) 64 (fillTo (k + 1) pa bk), aI G (ad 7) 8 li] := hD
        have hl : lv_has ls 4 [(0, .ref h), (1, .int (nI (k + 1)))] := lv_sub hl [1, 0] rfl
        exact ih_2 (k + 1) (by omega) (by omega) _ _ _ hP hD hS hl
  have e_8 : (bk) = (fillTo 0 pa bk) := by exact (fill0 _ _).symm
  have hP : va_P G.1 vwCl [oM h ad thr sts hs len at_ num many, aI G (ad 1) 68 st, aI G (ad 5) 64 pa, aI G (ad 6) 64 (fillTo 0 pa bk), aI G (ad 7) 8 li] _ := cong_P (q0 := 3) (fun j _ => congrFun e_8 j) rfl rfl hP
  have hD : va_D A [oM h ad thr sts hs len at_ num many, aI G (ad 1) 68 st, aI G (ad 5) 64 pa, aI G (ad 6) 64 (fillTo 0 pa bk), aI G (ad 7) 8 li] := cong_D (q0 := 3) rfl rfl hD
  have hP : va_P G.1 vwCl [oM h ad thr sts hs len at_ num many, aI G (ad 1) 68 st, aI G (ad 5) 64 pa, aI G (ad 6) 64 (fillTo 0 pa bk), aI G (ad 7) 8 li] _ := hP
  have hD : va_D A [oM h ad thr sts hs len at_ num many, aI G (ad 1) 68 st, aI G (ad 5) 64 pa, aI G (ad 6) 64 (fillTo 0 pa bk), aI G (ad 7) 8 li] := hD
  have hl : lv_has ls 4 [(0, .ref h), (1, .int (nI 0))] := lv_sub hl [1, 0] rfl
  exact lp_2 _ 0 (by omega) (Nat.lt_succ_self _) _ _ _ hP hD hS hl
def rm_X9_dropFrom : Room := ({ frames := 3, cells := 0, slots := 0, locals := 72 } : Room)
set_option maxHeartbeats 400000 in
set_option maxRecDepth 100000 in
theorem t_X9_dropFrom (l : Launch) (G : GG) (b0 sz : Nat) (h : Nat) (ad : Nat → Nat) (thr sts : Nat) (hs : Bool) (len at_ num many : Nat) (st pa li : Nat → Int32) (L : Nat) (t : Int32) (hL1 : 1 ≤ L) (hL : L ≤ 3) (hst : st 64 = nI L) : CT l yX9_dropFrom cX9_dropFrom 5 (some FieldType.int) (rm_X9_dropFrom) G b0 [.ref h, .int t] [oM h ad thr sts hs len at_ num many, aI G (ad 1) 68 st, aI G (ad 5) 64 pa, aI G (ad 7) 8 li] sz (Ri G (fun (r_ : Int32) (u : Nat → Int32) => r_ = l_sum (crmN L t (splitP st L)) 64) (fun (u : Nat → Int32) => [oM h ad thr sts hs len at_ num many, aI G (ad 1) 68 st, aI G (ad 5) 64 (drpA L t (splitP st L)), aI G (ad 7) 8 u])) := by
  refine CT.go (by decide) (Nat.le_of_ble_eq_true rfl) (fun p e s m below meth c A ls AR QQ hx hb hr hlk hml hown hnm hts hE hA hAb hsz hP hD hS hl hQQ => ?_)
  have hK := hE.1
  have hown : s.vm.findClass RX9 = some m.cls := hown
  have hl : lv_has ls 5 [(0, .ref h), (1, .int t)] := hl
  clear hsz
  refine lv_aload_n hx hb dX9_dropFrom_0 rfl (lv_at hl 0 rfl) ?_
  refine fin_v (ws' := (fun (u_1 : Nat → Int32) => [oM h ad thr sts hs len at_ num many, aI G (ad 1) 68 st, aI G (ad 5) 64 (splitP st L), aI G (ad 7) 8 u_1])) hA hS hP hD [0, 1, 2, 3] rfl [(true, 0), (true, 1), (true, 2), (true, 3)] (fun _ => rfl) (by decide) (run_V (As := []) (rest := []) (n9 := 0) hx hb hml hown hts hE hAb hl.1 hS hP hD [0, 1, 2, 3] rfl (by decide) (t_X9_split l G b0 _ h ad thr sts hs len at_ num many st pa li L (by omega) (by omega) (by omega)) (lw_V q1777 q1779 qs64 q129 q1780) 0 rfl rfl ⟨rfl, by decide, by decide, by decide +kernel⟩ ⟨Nat.le_of_ble_eq_true rfl, Nat.le_of_ble_eq_true rfl⟩ ⟨by first | exact Nat.le_of_ble_eq_true rfl | (simp only [rm_X9_dropFrom, rm_X9_split]; omega), by first | exact Nat.le_of_ble_eq_true rfl | (simp only [rm_X9_dropFrom, rm_X9_split]; omega)⟩ dX9_dropFrom_1 (Nat.le_of_ble_eq_true rfl) rfl rfl) (fun u_1 H locs h_1 hP hD hS => ?_)
  have hP : va_P G.1 vwCl [oM h ad thr sts hs len at_ num many, aI G (ad 1) 68 st, aI G (ad 5) 64 (splitP st L), aI G (ad 7) 8 u_1] _ := hP
  have hD : va_D A [oM h ad thr sts hs len at_ num many, aI G (ad 1) 68 st, aI G (ad 5) 64 (splitP st L), aI G (ad 7) 8 u_1] := hD
  refine lv_iconst (v := nI 0) hx hb dX9_dropFrom_4 (by decide) ?_
  refine lv_istore_n (lv' := [(2, .int (nI 0)), (0, .ref h), (1, .int t)]) hx hb dX9_dropFrom_5 rfl hl (by decide) rfl (fun ls hl => ?_)
  refine lv_iconst (v := nI 0) hx hb dX9_dropFrom_6 (by decide) ?_
  refine lv_istore_n (lv' := [(3, .int (nI 0)), (2, .int (nI 0)), (0, .ref h), (1, .int t)]) hx hb dX9_dropFrom_7 rfl hl (by decide) rfl (fun ls hl => ?_)
  have lp_8 : ∀ (n_8 : Nat) (k : Nat), (k ≤ 64) → (64 - k) < n_8 → ∀ (H : Heap) (locs : List Loc) (ls : Array Slot), va_P G.1 vwCl [oM h ad thr sts hs len at_ num many, aI G (ad 1) 68 st, aI G (ad 5) 64 (fillTo k (drpA L t (splitP st L)) (splitP st L)), aI G (ad 7) 8 u_1] H → va_D A [oM h ad thr sts hs len at_ num many, aI G (ad 1) 68 st, aI G (ad 5) 64 (fillTo k (drpA L t (splitP st L)) (splitP st L)), aI G (ad 7) 8 u_1] → va_S A s.heap H locs → lv_has ls 5 [(0, .ref h), (1, .int t), (2, .int (l_sum (crmN L t (splitP st L)) k)), (3, .int (nI k))] → W p l e (rm_X9_dropFrom) s m AR below meth c H locs 0 0 QQ (F0 m 8 ls []) := by
    intro n_8
    induction n_8 with
    | zero => intro k hk hn_; exact absurd hn_ (Nat.not_lt_zero _)
    | succ n_8 ih_8 =>
      intro k hk hn_8 H locs ls hP hD hS hl
      refine lv_iload_n hx hb dX9_dropFrom_8 rfl (lv_at hl 3 rfl) ?_
      refine lv_bipush (v := nI 64) hx hb dX9_dropFrom_9 (by decide) ?_
      refine N_icmp_ge (tgt := 91) hx hb dX9_dropFrom_11 (by decide) (by omega) (by omega) (fun c_11 => ?_) (fun c_11 => ?_)
      · skip
        obtain rfl : k = 64 := by omega
        have e_2 : ∀ j, j < 64 → (fillTo 64 (drpA L t (splitP st L)) (splitP st L)) j = (drpA L t (splitP st L)) j := by exact fill_pt
        have hP : va_P G.1 vwCl [oM h ad thr sts hs len at_ num many, aI G (ad 1) 68 st, aI G (ad 5) 64 (drpA L t (splitP st L)), aI G (ad 7) 8 u_1] _ := cong_P (q0 := 2) e_2 rfl rfl hP
        have hD : va_D A [oM h ad thr sts hs len at_ num many, aI G (ad 1) 68 st, aI G (ad 5) 64 (drpA L t (splitP st L)), aI G (ad 7) 8 u_1] := cong_D (q0 := 2) rfl rfl hD
        have hP : va_P G.1 vwCl [oM h ad thr sts hs len at_ num many, aI G (ad 1) 68 st, aI G (ad 5) 64 (drpA L t (splitP st L)), aI G (ad 7) 8 u_1] _ := hP
        have hD : va_D A [oM h ad thr sts hs len at_ num many, aI G (ad 1) 68 st, aI G (ad 5) 64 (drpA L t (splitP st L)), aI G (ad 7) 8 u_1] := hD
        refine lv_iload_n hx hb dX9_dropFrom_91 rfl (lv_at hl 2 rfl) ?_
        rw [hQQ]
        exact rt_i hx hb hr hlk  u_1 dX9_dropFrom_92 hP hD hS (by first | exact Nat.le_of_ble_eq_true rfl | (simp only [rm_X9_dropFrom]; omega)) (by first | exact Nat.le_of_ble_eq_true rfl | (simp only [rm_X9_dropFrom]; omega)) (by rfl)
      · skip
        refine lv_aload_n hx hb dX9_dropFrom_14 rfl (lv_at hl 0 rfl) ?_
        refine lv_iload_n hx hb dX9_dropFrom_15 rfl (lv_at hl 3 rfl) ?_
        refine fin_i (ws' := (fun (_ : Unit) => [oM h ad thr sts hs len at_ num many, aI G (ad 1) 68 st, aI G (ad 5) 64 (fillTo k (drpA L t (splitP st L)) (splitP st L)), aI G (ad 7) 8 u_1])) hA hS hP hD [0, 1] rfl [(true, 0), (true, 1), (false, 2), (false, 3)] (fun _ => rfl) (by decide) (run_V (As := [.int (nI k)]) (rest := []) (n9 := 1) hx hb hml hown hts hE hAb hl.1 hS hP hD [0, 1] rfl (by decide) (t_X9_isDifference l G b0 _ h ad thr sts hs len at_ num many st k L (by omega) (by omega) (by omega) (by omega)) (lw_V q1789 q1791 qs67 q129 q1792) 0 rfl rfl ⟨rfl, by decide, by decide, by decide +kernel⟩ ⟨Nat.le_of_ble_eq_true rfl, Nat.le_of_ble_eq_true rfl⟩ ⟨by first | exact Nat.le_of_ble_eq_true rfl | (simp only [rm_X9_dropFrom, rm_X9_isDifference]; omega), by first | exact Nat.le_of_ble_eq_true rfl | (simp only [rm_X9_dropFrom, rm_X9_isDifference]; omega)⟩ dX9_dropFrom_16 (Nat.le_of_ble_eq_true rfl) rfl rfl) (fun r_3 u_3 H locs h_3 hP hD hS => ?_)
        have hP : va_P G.1 vwCl [oM h ad thr sts hs len at_ num many, aI G (ad 1) 68 st, aI G (ad 5) 64 (fillTo k (drpA L t (splitP st L)) (splitP st L)), aI G (ad 7) 8 u_1] _ := hP
        have hD : va_D A [oM h ad thr sts hs len at_ num many, aI G (ad 1) 68 st, aI G (ad 5) 64 (fillTo k (drpA L t (splitP st L)) (splitP st L)), aI G (ad 7) 8 u_1] := hD
        have h_3 : r_3 = (bI (isDf L k)) := h_3
        rw [h_3]
        have K_19 : ∀ (v_4 : Bool) (_ : v_4 = if (isDf L k) = true then (if ((splitP st L) k) = 0 then false else (if t < (sizI ((splitP st L) k)) then false else true)) else false) (H : Heap) (locs : List Loc) (ls : Array Slot), va_P G.1 vwCl [oM h ad thr sts hs len at_ num many, aI G (ad 1) 68 st, aI G (ad 5) 64 (fillTo k (drpA L t (splitP st L)) (splitP st L)), aI G (ad 7) 8 u_1] H → va_D A [oM h ad thr sts hs len at_ num many, aI G (ad 1) 68 st, aI G (ad 5) 64 (fillTo k (drpA L t (splitP st L)) (splitP st L)), aI G (ad 7) 8 u_1] → va_S A s.heap H locs → lv_has ls 5 [(0, .ref h), (1, .int t), (2, .int (l_sum (crmN L t (splitP st L)) k)), (3, .int (nI k))] → W p l e (rm_X9_dropFrom) s m AR below meth c H locs 0 0 QQ (F0 m 49 ls [.int (bI v_4)]) := by
          intro v_4 e_v_4 H locs ls hP hD hS hl
          subst e_v_4
          refine lv_istore (lv' := [(4, .int (bI (if (isDf L k) = true then (if ((splitP st L) k) = 0 then false else (if t < (sizI ((splitP st L) k)) then false else true)) else false))), (0, .ref h), (1, .int t), (2, .int (l_sum (crmN L t (splitP st L)) k)), (3, .int (nI k))]) hx hb dX9_dropFrom_49 hl (by decide) rfl (fun ls hl => ?_)
          have hl : lv_has ls 5 [(4, .int (bI (crmB L t (splitP st L) k))), (0, .ref h), (1, .int t), (2, .int (l_sum (crmN L t (splitP st L)) k)), (3, .int (nI k))] := hl
          refine lv_aload_n hx hb dX9_dropFrom_51 rfl (lv_at hl 1 rfl) ?_
          refine va_get (D := G.1) (ci := 8) (v := .ref (ad 5)) (C := RX9) (T := TX9) (N := 21) hx hb hts in_X9 hown hK hP 0 rfl rfl 8 (by decide) (hts _ q1675) (fun _ h9 => h9) rfl dX9_dropFrom_52 ?_
          refine lv_iload_n hx hb dX9_dropFrom_55 rfl (lv_at hl 4 rfl) ?_
          refine lv_iload hx hb dX9_dropFrom_56 (lv_at hl 0 rfl) ?_
          have K_58 : ∀ (v_5 : Int32) (_ : v_5 = if (crmB L t (splitP st L) k) = true then (nI 0) else ((splitP st L) k)) (H : Heap) (locs : List Loc) (ls : Array Slot), va_P G.1 vwCl [oM h ad thr sts hs len at_ num many, aI G (ad 1) 68 st, aI G (ad 5) 64 (fillTo k (drpA L t (splitP st L)) (splitP st L)), aI G (ad 7) 8 u_1] H → va_D A [oM h ad thr sts hs len at_ num many, aI G (ad 1) 68 st, aI G (ad 5) 64 (fillTo k (drpA L t (splitP st L)) (splitP st L)), aI G (ad 7) 8 u_1] → va_S A s.heap H locs → lv_has ls 5 [(4, .int (bI (crmB L t (splitP st L) k))), (0, .ref h), (1, .int t), (2, .int (l_sum (crmN L t (splitP st L)) k)), (3, .int (nI k))] → W p l e (rm_X9_dropFrom) s m AR below meth c H locs 0 0 QQ (F0 m 71 ls [.int v_5, .int (nI k), .ref (ad 5)]) := by
            intro v_5 e_v_5 H locs ls hP hD hS hl
            subst e_v_5
            refine N_iast (ws' := [oM h ad thr sts hs len at_ num many, aI G (ad 1) 68 st, aI G (ad 5) 64 (upd (fillTo k (drpA L t (splitP st L)) (splitP st L)) k (if (crmB L t (splitP st L) k) = true then (nI 0) else ((splitP st L) k))), aI G (ad 7) 8 u_1]) hx hb dX9_dropFrom_71 hK hP hD hS 2 0 rfl rfl (by omega) (by omega) rfl (fun H locs hP hD hS => ?_)
            refine lv_iload_n hx hb dX9_dropFrom_72 rfl (lv_at hl 3 rfl) ?_
            refine lv_iload hx hb dX9_dropFrom_73 (lv_at hl 0 rfl) ?_
            have K_75 : ∀ (v_6 : Bool) (_ : v_6 = if (crmB L t (splitP st L) k) = true then true else false) (H : Heap) (locs : List Loc) (ls : Array Slot), va_P G.1 vwCl [oM h ad thr sts hs len at_ num many, aI G (ad 1) 68 st, aI G (ad 5) 64 (upd (fillTo k (drpA L t (splitP st L)) (splitP st L)) k (if (crmB L t (splitP st L) k) = true then (nI 0) else ((splitP st L) k))), aI G (ad 7) 8 u_1] H → va_D A [oM h ad thr sts hs len at_ num many, aI G (ad 1) 68 st, aI G (ad 5) 64 (upd (fillTo k (drpA L t (splitP st L)) (splitP st L)) k (if (crmB L t (splitP st L) k) = true then (nI 0) else ((splitP st L) k))), aI G (ad 7) 8 u_1] → va_S A s.heap H locs → lv_has ls 5 [(4, .int (bI (crmB L t (splitP st L) k))), (0, .ref h), (1, .int t), (2, .int (l_sum (crmN L t (splitP st L)) k)), (3, .int (nI k))] → W p l e (rm_X9_dropFrom) s m AR below meth c H locs 0 0 QQ (F0 m 83 ls [.int (bI v_6), .int (l_sum (crmN L t (splitP st L)) k)]) := by
              intro v_6 e_v_6 H locs ls hP hD hS hl
              subst e_v_6
              refine lv_iadd hx hb dX9_dropFrom_83 ?_
              refine lv_istore_n (lv' := [(2, .int ((l_sum (crmN L t (splitP st L)) k) + (bI (if (crmB L t (splitP st L) k) = true then true else false)))), (4, .int (bI (crmB L t (splitP st L) k))), (0, .ref h), (1, .int t), (3, .int (nI k))]) hx hb dX9_dropFrom_84 rfl hl (by decide) rfl (fun ls hl => ?_)
              refine N_iinc (a := k) (b := 1) (k9 := 4) (lv' := [(3, .int (nI (k + 1))), (2, .int ((l_sum (crmN L t (splitP st L)) k) + (bI (if (crmB L t (splitP st L) k) = true then true else false)))), (4, .int (bI (crmB L t (splitP st L) k))), (0, .ref h), (1, .int t)]) hx hb dX9_dropFrom_85 hl rfl rfl (by decide) rfl (fun ls hl => ?_)
              refine lv_goto (tgt := 8) hx hb dX9_dropFrom_88 (by decide) ?_
              have e_7 : (upd (fillTo k (drpA L t (splitP st L)) (splitP st L)) k (if (crmB L t (splitP st L) k) = true then (nI 0) else ((splitP st L) k))) = (fillTo (k + 1) (drpA L t (splitP st L)) (splitP st L)) := by exact fill_step
              have hP : va_P G.1 vwCl [oM h ad thr sts hs len at_ num many, aI G (ad 1) 68 st, aI G (ad 5) 64 (fillTo (k + 1) (drpA L t (splitP st L)) (splitP st L)), aI G (ad 7) 8 u_1] _ := cong_P (q0 := 2) (fun j _ => congrFun e_7 j) rfl rfl hP
              have hD : va_D A [oM h ad thr sts hs len at_ num many, aI G (ad 1) 68 st, aI G (ad 5) 64 (fillTo (k + 1) (drpA L t (splitP st L)) (splitP st L)), aI G (ad 7) 8 u_1] := cong_D (q0 := 2) rfl rfl hD
              have hP : va_P G.1 vwCl [oM h ad thr sts hs len at_ num many, aI G (ad 1) 68 st, aI G (ad 5) 64 (fillTo (k + 1) (drpA L t (splitP st L)) (splitP st L)), aI G (ad 7) 8 u_1] _ := hP
              have hD : va_D A [oM h ad thr sts hs len at_ num many, aI G (ad 1) 68 st, aI G (ad 5) 64 (fillTo (k + 1) (drpA L t (splitP st L)) (splitP st L)), aI G (ad 7) 8 u_1] := hD
              have hl : lv_has ls 5 [(0, .ref h), (1, .int t), (2, .int ((l_sum (crmN L t (splitP st L)) k) + (bI (if (crmB L t (splitP st L) k) = true then true else false)))), (3, .int (nI (k + 1)))] := lv_sub hl [3, 4, 1, 0] rfl
              have e_8 : ((l_sum (crmN L t (splitP st L)) k) + (bI (if (crmB L t (splitP st L) k) = true then true else false))) = (l_sum (crmN L t (splitP st L)) (k + 1)) := by rw [ite_tf]; rfl
              rw [e_8] at hl
              have hl : lv_has ls 5 [(0, .ref h), (1, .int t), (2, .int (l_sum (crmN L t (splitP st L)) (k + 1))), (3, .int (nI (k + 1)))] := hl
              exact ih_8 (k + 1) (by omega) (by omega) _ _ _ hP hD hS hl
            refine B_if_eq (tgt := 82) hx hb dX9_dropFrom_75 (by decide) (fun c_75 => ?_) (fun c_75 => ?_)
            · skip
              refine lv_iconst (v := nI 0) hx hb dX9_dropFrom_82 (by decide) ?_
              exact K_75 false (by first | rfl | (try rw [if_neg (ne_true_of_eq_false c_75)]) | simp_all) _ _ _ hP hD hS (lv_sub hl [0, 1, 2, 3, 4] rfl)
            · skip
              refine lv_iconst (v := nI 1) hx hb dX9_dropFrom_78 (by decide) ?_
              refine lv_goto (tgt := 83) hx hb dX9_dropFrom_79 (by decide) ?_
              exact K_75 true (by first | rfl | (try rw [if_pos c_75]) | simp_all) _ _ _ hP hD hS (lv_sub hl [0, 1, 2, 3, 4] rfl)
          refine B_if_eq (tgt := 65) hx hb dX9_dropFrom_58 (by decide) (fun c_58 => ?_) (fun c_58 => ?_)
          · skip
            refine lv_aload_n hx hb dX9_dropFrom_65 rfl (lv_at hl 1 rfl) ?_
            refine va_get (D := G.1) (ci := 8) (v := .ref (ad 5)) (C := RX9) (T := TX9) (N := 21) hx hb hts in_X9 hown hK hP 0 rfl rfl 8 (by decide) (hts _ q1675) (fun _ h9 => h9) rfl dX9_dropFrom_66 ?_
            refine lv_iload_n hx hb dX9_dropFrom_69 rfl (lv_at hl 4 rfl) ?_
            refine N_iald hx hb dX9_dropFrom_70 hK hP 2 0 rfl rfl (by omega) (by omega) ?_
            refine top_i (y := (splitP st L) k) (by first | exact fill_ge (Nat.le_refl _) | exact congrArg nI (fill_ge (Nat.le_refl _)) | exact congrArg bI (fill_ge (Nat.le_refl _))) ?_
            exact K_58 ((splitP st L) k) (by first | rfl | (try rw [if_neg (ne_true_of_eq_false c_58)]) | simp_all) _ _ _ hP hD hS (lv_sub hl [0, 1, 2, 3, 4] rfl)
          · skip
            refine lv_iconst (v := nI 0) hx hb dX9_dropFrom_61 (by decide) ?_
            refine lv_goto (tgt := 71) hx hb dX9_dropFrom_62 (by decide) ?_
            exact K_58 (nI 0) (by first | rfl | (try rw [if_pos c_58]) | simp_all) _ _ _ hP hD hS (lv_sub hl [0, 1, 2, 3, 4] rfl)
        refine B_if_eq (tgt := 48) hx hb dX9_dropFrom_19 (by decide) (fun c_19 => ?_) (fun c_19 => ?_)
        · skip
          refine lv_iconst (v := nI 0) hx hb dX9_dropFrom_48 (by decide) ?_
          exact K_19 false (by first | rfl | (try rw [if_neg (ne_true_of_eq_false c_19)]) | simp_all) _ _ _ hP hD hS (lv_sub hl [0, 1, 2, 3] rfl)
        · skip
          refine lv_aload_n hx hb dX9_dropFrom_22 rfl (lv_at hl 0 rfl) ?_
          refine va_get (D := G.1) (ci := 8) (v := .ref (ad 5)) (C := RX9) (T := TX9) (N := 21) hx hb hts in_X9 hown hK hP 0 rfl rfl 8 (by decide) (hts _ q1675) (fun _ h9 => h9) rfl dX9_dropFrom_23 ?_
          refine lv_iload_n hx hb dX9_dropFrom_26 rfl (lv_at hl 3 rfl) ?_
          refine N_iald hx hb dX9_dropFrom_27 hK hP 2 0 rfl rfl (by omega) (by omega) ?_
          refine top_i (y := (splitP st L) k) (by first | exact fill_ge (Nat.le_refl _) | exact congrArg nI (fill_ge (Nat.le_refl _)) | exact congrArg bI (fill_ge (Nat.le_refl _))) ?_
          refine lv_if_eq (tgt := 48) hx hb dX9_dropFrom_28 (by decide) (fun c_28 => ?_) (fun c_28 => ?_)
          · skip
            refine lv_iconst (v := nI 0) hx hb dX9_dropFrom_48 (by decide) ?_
            exact K_19 false (by first | rfl | (try rw [if_pos c_19]; try rw [if_pos c_28]) | simp_all) _ _ _ hP hD hS (lv_sub hl [0, 1, 2, 3] rfl)
          · skip
            refine lv_aload_n hx hb dX9_dropFrom_31 rfl (lv_at hl 0 rfl) ?_
            refine va_get (D := G.1) (ci := 8) (v := .ref (ad 5)) (C := RX9) (T := TX9) (N := 21) hx hb hts in_X9 hown hK hP 0 rfl rfl 8 (by decide) (hts _ q1675) (fun _ h9 => h9) rfl dX9_dropFrom_32 ?_
            refine lv_iload_n hx hb dX9_dropFrom_35 rfl (lv_at hl 3 rfl) ?_
            refine N_iald hx hb dX9_dropFrom_36 hK hP 2 0 rfl rfl (by omega) (by omega) ?_
            refine top_i (y := (splitP st L) k) (by first | exact fill_ge (Nat.le_refl _) | exact congrArg nI (fill_ge (Nat.le_refl _)) | exact congrArg bI (fill_ge (Nat.le_refl _))) ?_
            refine fin_i (ws' := (fun (_ : Unit) => [oM h ad thr sts hs len at_ num many, aI G (ad 1) 68 st, aI G (ad 5) 64 (fillTo k (drpA L t (splitP st L)) (splitP st L)), aI G (ad 7) 8 u_1])) hA hS hP hD [] rfl [(false, 0), (false, 1), (false, 2), (false, 3)] (fun _ => rfl) (by decide) (run_S (As := [.int ((splitP st L) k)]) (rest := []) (n9 := 1) hx hb hml hown hts hE hAb hl.1 hS hP hD [] rfl (by decide) (t_X9_size l G b0 _ ((splitP st L) k) ) (lw_S q1799 q1800 q129 q1801) ⟨by decide, by decide, by decide +kernel⟩ ⟨Nat.le_of_ble_eq_true rfl, Nat.le_of_ble_eq_true rfl⟩ ⟨by first | exact Nat.le_of_ble_eq_true rfl | (simp only [rm_X9_dropFrom, rm_X9_size]; omega), by first | exact Nat.le_of_ble_eq_true rfl | (simp only [rm_X9_dropFrom, rm_X9_size]; omega)⟩ dX9_dropFrom_37 (Nat.le_of_ble_eq_true rfl) rfl rfl) (fun r_9 u_9 H locs h_9 hP hD hS => ?_)
            have hP : va_P G.1 vwCl [oM h ad thr sts hs len at_ num many, aI G (ad 1) 68 st, aI G (ad 5) 64 (fillTo k (drpA L t (splitP st L)) (splitP st L)), aI G (ad 7) 8 u_1] _ := hP
            have hD : va_D A [oM h ad thr sts hs len at_ num many, aI G (ad 1) 68 st, aI G (ad 5) 64 (fillTo k (drpA L t (splitP st L)) (splitP st L)), aI G (ad 7) 8 u_1] := hD
            have h_9 : r_9 = (sizI ((splitP st L) k)) := h_9
            rw [h_9]
            refine lv_iload_n hx hb dX9_dropFrom_40 rfl (lv_at hl 1 rfl) ?_
            refine lv_icmp_gt (tgt := 48) hx hb dX9_dropFrom_41 (by decide) (fun c_41 => ?_) (fun c_41 => ?_)
            · skip
              refine lv_iconst (v := nI 0) hx hb dX9_dropFrom_48 (by decide) ?_
              exact K_19 false (by first | rfl | (try rw [if_pos c_19]; try rw [if_neg c_28]; try rw [if_pos c_41]) | simp_all) _ _ _ hP hD hS (lv_sub hl [0, 1, 2, 3] rfl)
            · skip
              refine lv_iconst (v := nI 1) hx hb dX9_dropFrom_44 (by decide) ?_
              refine lv_goto (tgt := 49) hx hb dX9_dropFrom_45 (by decide) ?_
              exact K_19 true (by first | rfl | (try rw [if_pos c_19]; try rw [if_neg c_28]; try rw [if_neg c_41]) | simp_all) _ _ _ hP hD hS (lv_sub hl [0, 1, 2, 3] rfl)
  have e_10 : (splitP st L) = (fillTo 0 (drpA L t (splitP st L)) (splitP st L)) := by exact (fill0 _ _).symm
  have hP : va_P G.1 vwCl [oM h ad thr sts hs len at_ num many, aI G (ad 1) 68 st, aI G (ad 5) 64 (fillTo 0 (drpA L t (splitP st L)) (splitP st L)), aI G (ad 7) 8 u_1] _ := cong_P (q0 := 2) (fun j _ => congrFun e_10 j) rfl rfl hP
  have hD : va_D A [oM h ad thr sts hs len at_ num many, aI G (ad 1) 68 st, aI G (ad 5) 64 (fillTo 0 (drpA L t (splitP st L)) (splitP st L)), aI G (ad 7) 8 u_1] := cong_D (q0 := 2) rfl rfl hD
  have hP : va_P G.1 vwCl [oM h ad thr sts hs len at_ num many, aI G (ad 1) 68 st, aI G (ad 5) 64 (fillTo 0 (drpA L t (splitP st L)) (splitP st L)), aI G (ad 7) 8 u_1] _ := hP
  have hD : va_D A [oM h ad thr sts hs len at_ num many, aI G (ad 1) 68 st, aI G (ad 5) 64 (fillTo 0 (drpA L t (splitP st L)) (splitP st L)), aI G (ad 7) 8 u_1] := hD
  have hl : lv_has ls 5 [(0, .ref h), (1, .int t), (2, .int (nI 0)), (3, .int (nI 0))] := lv_sub hl [2, 3, 1, 0] rfl
  have e_11 : (nI 0) = (l_sum (crmN L t (splitP st L)) 0) := by rfl
  rw [e_11] at hl
  have hl : lv_has ls 5 [(0, .ref h), (1, .int t), (2, .int (l_sum (crmN L t (splitP st L)) 0)), (3, .int (nI 0))] := hl
  exact lp_8 _ 0 (by omega) (Nat.lt_succ_self _) _ _ _ hP hD hS hl
def rm_X9_joinClamped : Room := ({ frames := 2, cells := 0, slots := 0, locals := 51 } : Room)
set_option maxHeartbeats 400000 in
set_option maxRecDepth 100000 in
theorem t_X9_joinClamped (l : Launch) (G : GG) (b0 sz : Nat) (h : Nat) (ad : Nat → Nat) (thr sts : Nat) (hs : Bool) (len at_ num many : Nat) (st pa bk li : Nat → Int32) (L : Nat) (hL1 : 1 ≤ L) (hL : L ≤ 3) (hst : st 64 = nI L) : CT l yX9_joinClamped cX9_joinClamped 2 none (rm_X9_joinClamped) G b0 [.ref h] [oM h ad thr sts hs len at_ num many, aI G (ad 1) 68 st, aI G (ad 5) 64 pa, aI G (ad 6) 64 bk, aI G (ad 7) 8 li] sz (Rv G (fun (u : Nat → Int32) => True) (fun (u : Nat → Int32) => [oM h ad thr sts hs len at_ num many, aI G (ad 1) 68 st, aI G (ad 5) 64 pa, aI G (ad 6) 64 (clmF (joinP L pa)), aI G (ad 7) 8 u])) := by
  refine CT.go (by decide) (Nat.le_of_ble_eq_true rfl) (fun p e s m below meth c A ls AR QQ hx hb hr hlk hml hown hnm hts hE hA hAb hsz hP hD hS hl hQQ => ?_)
  have hK := hE.1
  have hown : s.vm.findClass RX9 = some m.cls := hown
  have hl : lv_has ls 2 [(0, .ref h)] := hl
  clear hsz
  refine lv_aload_n hx hb dX9_joinClamped_0 rfl (lv_at hl 0 rfl) ?_
  refine fin_v (ws' := (fun (u_1 : Nat → Int32) => [oM h ad thr sts hs len at_ num many, aI G (ad 1) 68 st, aI G (ad 5) 64 pa, aI G (ad 6) 64 (joinP L pa), aI G (ad 7) 8 u_1])) hA hS hP hD [0, 1, 2, 3, 4] rfl [(true, 0), (true, 1), (true, 2), (true, 3), (true, 4)] (fun _ => rfl) (by decide) (run_V (As := []) (rest := []) (n9 := 0) hx hb hml hown hts hE hAb hl.1 hS hP hD [0, 1, 2, 3, 4] rfl (by decide) (t_X9_joinBack l G b0 _ h ad thr sts hs len at_ num many st pa bk li L (by omega) (by omega) (by omega)) (lw_V q1814 q1816 qs70 q129 q1817) 0 rfl rfl ⟨rfl, by decide, by decide, by decide +kernel⟩ ⟨Nat.le_of_ble_eq_true rfl, Nat.le_of_ble_eq_true rfl⟩ ⟨by first | exact Nat.le_of_ble_eq_true rfl | (simp only [rm_X9_joinClamped, rm_X9_joinBack]; omega), by first | exact Nat.le_of_ble_eq_true rfl | (simp only [rm_X9_joinClamped, rm_X9_joinBack]; omega)⟩ dX9_joinClamped_1 (Nat.le_of_ble_eq_true rfl) rfl rfl) (fun u_1 H locs h_1 hP hD hS => ?_)
  have hP : va_P G.1 vwCl [oM h ad thr sts hs len at_ num many, aI G (ad 1) 68 st, aI G (ad 5) 64 pa, aI G (ad 6) 64 (joinP L pa), aI G (ad 7) 8 u_1] _ := hP
  have hD : va_D A [oM h ad thr sts hs len at_ num many, aI G (ad 1) 68 st, aI G (ad 5) 64 pa, aI G (ad 6) 64 (joinP L pa), aI G (ad 7) 8 u_1] := hD
  refine lv_iconst (v := nI 0) hx hb dX9_joinClamped_4 (by decide) ?_
  refine lv_istore_n (lv' := [(1, .int (nI 0)), (0, .ref h)]) hx hb dX9_joinClamped_5 rfl hl (by decide) rfl (fun ls hl => ?_)
  have lp_6 : ∀ (n_6 : Nat) (k : Nat), (k ≤ 64) → (64 - k) < n_6 → ∀ (H : Heap) (locs : List Loc) (ls : Array Slot), va_P G.1 vwCl [oM h ad thr sts hs len at_ num many, aI G (ad 1) 68 st, aI G (ad 5) 64 pa, aI G (ad 6) 64 (fillTo k (clmF (joinP L pa)) (joinP L pa)), aI G (ad 7) 8 u_1] H → va_D A [oM h ad thr sts hs len at_ num many, aI G (ad 1) 68 st, aI G (ad 5) 64 pa, aI G (ad 6) 64 (fillTo k (clmF (joinP L pa)) (joinP L pa)), aI G (ad 7) 8 u_1] → va_S A s.heap H locs → lv_has ls 2 [(0, .ref h), (1, .int (nI k))] → W p l e (rm_X9_joinClamped) s m AR below meth c H locs 0 0 QQ (F0 m 6 ls []) := by
    intro n_6
    induction n_6 with
    | zero => intro k hk hn_; exact absurd hn_ (Nat.not_lt_zero _)
    | succ n_6 ih_6 =>
      intro k hk hn_6 H locs ls hP hD hS hl
      refine lv_iload_n hx hb dX9_joinClamped_6 rfl (lv_at hl 1 rfl) ?_
      refine lv_bipush (v := nI 64) hx hb dX9_joinClamped_7 (by decide) ?_
      refine N_icmp_ge (tgt := 33) hx hb dX9_joinClamped_9 (by decide) (by omega) (by omega) (fun c_9 => ?_) (fun c_9 => ?_)
      · skip
        obtain rfl : k = 64 := by omega
        have e_2 : ∀ j, j < 64 → (fillTo 64 (clmF (joinP L pa)) (joinP L pa)) j = (clmF (joinP L pa)) j := by exact fill_pt
        have hP : va_P G.1 vwCl [oM h ad thr sts hs len at_ num many, aI G (ad 1) 68 st, aI G (ad 5) 64 pa, aI G (ad 6) 64 (clmF (joinP L pa)), aI G (ad 7) 8 u_1] _ := cong_P (q0 := 3) e_2 rfl rfl hP
        have hD : va_D A [oM h ad thr sts hs len at_ num many, aI G (ad 1) 68 st, aI G (ad 5) 64 pa, aI G (ad 6) 64 (clmF (joinP L pa)), aI G (ad 7) 8 u_1] := cong_D (q0 := 3) rfl rfl hD
        have hP : va_P G.1 vwCl [oM h ad thr sts hs len at_ num many, aI G (ad 1) 68 st, aI G (ad 5) 64 pa, aI G (ad 6) 64 (clmF (joinP L pa)), aI G (ad 7) 8 u_1] _ := hP
        have hD : va_D A [oM h ad thr sts hs len at_ num many, aI G (ad 1) 68 st, aI G (ad 5) 64 pa, aI G (ad 6) 64 (clmF (joinP L pa)), aI G (ad 7) 8 u_1] := hD
        rw [hQQ]
        exact rt_v hx hb hr hlk u_1 dX9_joinClamped_33 hP hD hS (by first | exact Nat.le_of_ble_eq_true rfl | (simp only [rm_X9_joinClamped]; omega)) (by first | exact Nat.le_of_ble_eq_true rfl | (simp only [rm_X9_joinClamped]; omega)) trivial
      · skip
        refine lv_aload_n hx hb dX9_joinClamped_12 rfl (lv_at hl 0 rfl) ?_
        refine va_get (D := G.1) (ci := 8) (v := .ref (ad 6)) (C := RX9) (T := TX9) (N := 21) hx hb hts in_X9 hown hK hP 0 rfl rfl 9 (by decide) (hts _ q1676) (fun _ h9 => h9) rfl dX9_joinClamped_13 ?_
        refine lv_iload_n hx hb dX9_joinClamped_16 rfl (lv_at hl 1 rfl) ?_
        refine lv_aload_n hx hb dX9_joinClamped_17 rfl (lv_at hl 0 rfl) ?_
        refine va_get (D := G.1) (ci := 8) (v := .ref (ad 6)) (C := RX9) (T := TX9) (N := 21) hx hb hts in_X9 hown hK hP 0 rfl rfl 9 (by decide) (hts _ q1676) (fun _ h9 => h9) rfl dX9_joinClamped_18 ?_
        refine lv_iload_n hx hb dX9_joinClamped_21 rfl (lv_at hl 1 rfl) ?_
        refine N_iald hx hb dX9_joinClamped_22 hK hP 3 0 rfl rfl (by omega) (by omega) ?_
        refine top_i (y := (joinP L pa) k) (by first | exact fill_ge (Nat.le_refl _) | exact congrArg nI (fill_ge (Nat.le_refl _)) | exact congrArg bI (fill_ge (Nat.le_refl _))) ?_
        refine fin_i (ws' := (fun (_ : Unit) => [oM h ad thr sts hs len at_ num many, aI G (ad 1) 68 st, aI G (ad 5) 64 pa, aI G (ad 6) 64 (fillTo k (clmF (joinP L pa)) (joinP L pa)), aI G (ad 7) 8 u_1])) hA hS hP hD [] rfl [(false, 0), (false, 1), (false, 2), (false, 3), (false, 4)] (fun _ => rfl) (by decide) (run_S (As := [.int ((joinP L pa) k)]) (rest := [.int (nI k), .ref (ad 6)]) (n9 := 1) hx hb hml hown hts hE hAb hl.1 hS hP hD [] rfl (by decide) (t_X9_clamped l G b0 _ ((joinP L pa) k) ) (lw_S q1822 q1823 q129 q1824) ⟨by decide, by decide, by decide +kernel⟩ ⟨Nat.le_of_ble_eq_true rfl, Nat.le_of_ble_eq_true rfl⟩ ⟨by first | exact Nat.le_of_ble_eq_true rfl | (simp only [rm_X9_joinClamped, rm_X9_clamped]; omega), by first | exact Nat.le_of_ble_eq_true rfl | (simp only [rm_X9_joinClamped, rm_X9_clamped]; omega)⟩ dX9_joinClamped_23 (Nat.le_of_ble_eq_true rfl) rfl rfl) (fun r_3 u_3 H locs h_3 hP hD hS => ?_)
        have hP : va_P G.1 vwCl [oM h ad thr sts hs len at_ num many, aI G (ad 1) 68 st, aI G (ad 5) 64 pa, aI G (ad 6) 64 (fillTo k (clmF (joinP L pa)) (joinP L pa)), aI G (ad 7) 8 u_1] _ := hP
        have hD : va_D A [oM h ad thr sts hs len at_ num many, aI G (ad 1) 68 st, aI G (ad 5) 64 pa, aI G (ad 6) 64 (fillTo k (clmF (joinP L pa)) (joinP L pa)), aI G (ad 7) 8 u_1] := hD
        have h_3 : r_3 = (clampI ((joinP L pa) k)) := h_3
        rw [h_3]
        refine N_iast (ws' := [oM h ad thr sts hs len at_ num many, aI G (ad 1) 68 st, aI G (ad 5) 64 pa, aI G (ad 6) 64 (upd (fillTo k (clmF (joinP L pa)) (joinP L pa)) k (clampI ((joinP L pa) k))), aI G (ad 7) 8 u_1]) hx hb dX9_joinClamped_26 hK hP hD hS 3 0 rfl rfl (by omega) (by omega) rfl (fun H locs hP hD hS => ?_)
        refine N_iinc (a := k) (b := 1) (k9 := 1) (lv' := [(1, .int (nI (k + 1))), (0, .ref h)]) hx hb dX9_joinClamped_27 hl rfl rfl (by decide) rfl (fun ls hl => ?_)
        refine lv_goto (tgt := 6) hx hb dX9_joinClamped_30 (by decide) ?_
        have e_4 : (upd (fillTo k (clmF (joinP L pa)) (joinP L pa)) k (clampI ((joinP L pa) k))) = (fillTo (k + 1) (clmF (joinP L pa)) (joinP L pa)) := by exact fill_step
        have hP : va_P G.1 vwCl [oM h ad thr sts hs len at_ num many, aI G (ad 1) 68 st, aI G (ad 5) 64 pa, aI G (ad 6) 64 (fillTo (k + 1) (clmF (joinP L pa)) (joinP L pa)), aI G (ad 7) 8 u_1] _ := cong_P (q0 := 3) (fun j _ => congrFun e_4 j) rfl rfl hP
        have hD : va_D A [oM h ad thr sts hs len at_ num many, aI G (ad 1) 68 st, aI G (ad 5) 64 pa, aI G (ad 6) 64 (fillTo (k + 1) (clmF (joinP L pa)) (joinP L pa)), aI G (ad 7) 8 u_1] := cong_D (q0 := 3) rfl rfl hD
        have hP : va_P G.1 vwCl [oM h ad thr sts hs len at_ num many, aI G (ad 1) 68 st, aI G (ad 5) 64 pa, aI G (ad 6) 64 (fillTo (k + 1) (clmF (joinP L pa)) (joinP L pa)), aI G (ad 7) 8 u_1] _ := hP
        have hD : va_D A [oM h ad thr sts hs len at_ num many, aI G (ad 1) 68 st, aI G (ad 5) 64 pa, aI G (ad 6) 64 (fillTo (k + 1) (clmF (joinP L pa)) (joinP L pa)), aI G (ad 7) 8 u_1] := hD
        have hl : lv_has ls 2 [(0, .ref h), (1, .int (nI (k + 1)))] := lv_sub hl [1, 0] rfl
        exact ih_6 (k + 1) (by omega) (by omega) _ _ _ hP hD hS hl
  have e_5 : (joinP L pa) = (fillTo 0 (clmF (joinP L pa)) (joinP L pa)) := by exact (fill0 _ _).symm
  have hP : va_P G.1 vwCl [oM h ad thr sts hs len at_ num many, aI G (ad 1) 68 st, aI G (ad 5) 64 pa, aI G (ad 6) 64 (fillTo 0 (clmF (joinP L pa)) (joinP L pa)), aI G (ad 7) 8 u_1] _ := cong_P (q0 := 3) (fun j _ => congrFun e_5 j) rfl rfl hP
  have hD : va_D A [oM h ad thr sts hs len at_ num many, aI G (ad 1) 68 st, aI G (ad 5) 64 pa, aI G (ad 6) 64 (fillTo 0 (clmF (joinP L pa)) (joinP L pa)), aI G (ad 7) 8 u_1] := cong_D (q0 := 3) rfl rfl hD
  have hP : va_P G.1 vwCl [oM h ad thr sts hs len at_ num many, aI G (ad 1) 68 st, aI G (ad 5) 64 pa, aI G (ad 6) 64 (fillTo 0 (clmF (joinP L pa)) (joinP L pa)), aI G (ad 7) 8 u_1] _ := hP
  have hD : va_D A [oM h ad thr sts hs len at_ num many, aI G (ad 1) 68 st, aI G (ad 5) 64 pa, aI G (ad 6) 64 (fillTo 0 (clmF (joinP L pa)) (joinP L pa)), aI G (ad 7) 8 u_1] := hD
  have hl : lv_has ls 2 [(0, .ref h), (1, .int (nI 0))] := lv_sub hl [1, 0] rfl
  exact lp_6 _ 0 (by omega) (Nat.lt_succ_self _) _ _ _ hP hD hS hl
def rm_X9_costOfBack : Room := ({ frames := 1, cells := 0, slots := 0, locals := 22 } : Room)
set_option maxHeartbeats 400000 in
set_option maxRecDepth 100000 in
theorem t_X9_costOfBack (l : Launch) (G : GG) (b0 sz : Nat) (h : Nat) (ad : Nat → Nat) (thr sts : Nat) (hs : Bool) (len at_ num many : Nat) (st bk : Nat → Int32) : CT l yX9_costOfBack cX9_costOfBack 3 (some FieldType.int) (rm_X9_costOfBack) G b0 [.ref h] [oM h ad thr sts hs len at_ num many, aI G (ad 1) 68 st, aI G (ad 6) 64 bk] sz (Ri G (fun (r_ : Int32) (_ : Unit) => r_ = l_sum (cosF bk st) 64) (fun (_ : Unit) => [oM h ad thr sts hs len at_ num many, aI G (ad 1) 68 st, aI G (ad 6) 64 bk])) := by
  refine CT.go (by decide) (Nat.le_of_ble_eq_true rfl) (fun p e s m below meth c A ls AR QQ hx hb hr hlk hml hown hnm hts hE hA hAb hsz hP hD hS hl hQQ => ?_)
  have hK := hE.1
  have hown : s.vm.findClass RX9 = some m.cls := hown
  have hl : lv_has ls 3 [(0, .ref h)] := hl
  clear hsz
  refine lv_iconst (v := nI 0) hx hb dX9_costOfBack_0 (by decide) ?_
  refine lv_istore_n (lv' := [(1, .int (nI 0)), (0, .ref h)]) hx hb dX9_costOfBack_1 rfl hl (by decide) rfl (fun ls hl => ?_)
  refine lv_iconst (v := nI 0) hx hb dX9_costOfBack_2 (by decide) ?_
  refine lv_istore_n (lv' := [(2, .int (nI 0)), (1, .int (nI 0)), (0, .ref h)]) hx hb dX9_costOfBack_3 rfl hl (by decide) rfl (fun ls hl => ?_)
  have lp_4 : ∀ (n_4 : Nat) (k : Nat), (k ≤ 64) → (64 - k) < n_4 → ∀ (H : Heap) (locs : List Loc) (ls : Array Slot), va_P G.1 vwCl [oM h ad thr sts hs len at_ num many, aI G (ad 1) 68 st, aI G (ad 6) 64 bk] H → va_D A [oM h ad thr sts hs len at_ num many, aI G (ad 1) 68 st, aI G (ad 6) 64 bk] → va_S A s.heap H locs → lv_has ls 3 [(0, .ref h), (1, .int (l_sum (cosF bk st) k)), (2, .int (nI k))] → W p l e (rm_X9_costOfBack) s m AR below meth c H locs 0 0 QQ (F0 m 4 ls []) := by
    intro n_4
    induction n_4 with
    | zero => intro k hk hn_; exact absurd hn_ (Nat.not_lt_zero _)
    | succ n_4 ih_4 =>
      intro k hk hn_4 H locs ls hP hD hS hl
      refine lv_iload_n hx hb dX9_costOfBack_4 rfl (lv_at hl 2 rfl) ?_
      refine lv_bipush (v := nI 64) hx hb dX9_costOfBack_5 (by decide) ?_
      refine N_icmp_ge (tgt := 35) hx hb dX9_costOfBack_7 (by decide) (by omega) (by omega) (fun c_7 => ?_) (fun c_7 => ?_)
      · skip
        obtain rfl : k = 64 := by omega
        refine lv_iload_n hx hb dX9_costOfBack_35 rfl (lv_at hl 1 rfl) ?_
        rw [hQQ]
        exact rt_i hx hb hr hlk  (()) dX9_costOfBack_36 hP hD hS (by first | exact Nat.le_of_ble_eq_true rfl | (simp only [rm_X9_costOfBack]; omega)) (by first | exact Nat.le_of_ble_eq_true rfl | (simp only [rm_X9_costOfBack]; omega)) (by rfl)
      · skip
        refine lv_iload_n hx hb dX9_costOfBack_10 rfl (lv_at hl 1 rfl) ?_
        refine lv_aload_n hx hb dX9_costOfBack_11 rfl (lv_at hl 0 rfl) ?_
        refine va_get (D := G.1) (ci := 8) (v := .ref (ad 6)) (C := RX9) (T := TX9) (N := 21) hx hb hts in_X9 hown hK hP 0 rfl rfl 9 (by decide) (hts _ q1676) (fun _ h9 => h9) rfl dX9_costOfBack_12 ?_
        refine lv_iload_n hx hb dX9_costOfBack_15 rfl (lv_at hl 2 rfl) ?_
        refine N_iald hx hb dX9_costOfBack_16 hK hP 2 0 rfl rfl (by omega) (by omega) ?_
        refine lv_aload_n hx hb dX9_costOfBack_17 rfl (lv_at hl 0 rfl) ?_
        refine va_get (D := G.1) (ci := 8) (v := .ref (ad 1)) (C := RX9) (T := TX9) (N := 21) hx hb hts in_X9 hown hK hP 0 rfl rfl 1 (by decide) (hts _ q1668) (fun _ h9 => h9) rfl dX9_costOfBack_18 ?_
        refine lv_iload_n hx hb dX9_costOfBack_21 rfl (lv_at hl 2 rfl) ?_
        refine N_iald hx hb dX9_costOfBack_22 hK hP 1 0 rfl rfl (by omega) (by omega) ?_
        refine lv_isub hx hb dX9_costOfBack_23 ?_
        refine fin_i (ws' := (fun (_ : Unit) => [oM h ad thr sts hs len at_ num many, aI G (ad 1) 68 st, aI G (ad 6) 64 bk])) hA hS hP hD [] rfl [(false, 0), (false, 1), (false, 2)] (fun _ => rfl) (by decide) (run_S (As := [.int ((bk k) - (st k))]) (rest := [.int (l_sum (cosF bk st) k)]) (n9 := 1) hx hb hml hown hts hE hAb hl.1 hS hP hD [] rfl (by decide) (t_X9_size l G b0 _ ((bk k) - (st k)) ) (lw_S q1799 q1800 q129 q1801) ⟨by decide, by decide, by decide +kernel⟩ ⟨Nat.le_of_ble_eq_true rfl, Nat.le_of_ble_eq_true rfl⟩ ⟨by first | exact Nat.le_of_ble_eq_true rfl | (simp only [rm_X9_costOfBack, rm_X9_size]; omega), by first | exact Nat.le_of_ble_eq_true rfl | (simp only [rm_X9_costOfBack, rm_X9_size]; omega)⟩ dX9_costOfBack_24 (Nat.le_of_ble_eq_true rfl) rfl rfl) (fun r_1 u_1 H locs h_1 hP hD hS => ?_)
        have hP : va_P G.1 vwCl [oM h ad thr sts hs len at_ num many, aI G (ad 1) 68 st, aI G (ad 6) 64 bk] _ := hP
        have hD : va_D A [oM h ad thr sts hs len at_ num many, aI G (ad 1) 68 st, aI G (ad 6) 64 bk] := hD
        have h_1 : r_1 = (sizI ((bk k) - (st k))) := h_1
        rw [h_1]
        refine lv_iadd hx hb dX9_costOfBack_27 ?_
        refine lv_istore_n (lv' := [(1, .int ((l_sum (cosF bk st) k) + (sizI ((bk k) - (st k))))), (0, .ref h), (2, .int (nI k))]) hx hb dX9_costOfBack_28 rfl hl (by decide) rfl (fun ls hl => ?_)
        refine N_iinc (a := k) (b := 1) (k9 := 2) (lv' := [(2, .int (nI (k + 1))), (1, .int ((l_sum (cosF bk st) k) + (sizI ((bk k) - (st k))))), (0, .ref h)]) hx hb dX9_costOfBack_29 hl rfl rfl (by decide) rfl (fun ls hl => ?_)
        refine lv_goto (tgt := 4) hx hb dX9_costOfBack_32 (by decide) ?_
        have hl : lv_has ls 3 [(0, .ref h), (1, .int ((l_sum (cosF bk st) k) + (sizI ((bk k) - (st k))))), (2, .int (nI (k + 1)))] := lv_sub hl [2, 1, 0] rfl
        have e_2 : ((l_sum (cosF bk st) k) + (sizI ((bk k) - (st k)))) = (l_sum (cosF bk st) (k + 1)) := by rfl
        rw [e_2] at hl
        have hl : lv_has ls 3 [(0, .ref h), (1, .int (l_sum (cosF bk st) (k + 1))), (2, .int (nI (k + 1)))] := hl
        exact ih_4 (k + 1) (by omega) (by omega) _ _ _ hP hD hS hl
  have hl : lv_has ls 3 [(0, .ref h), (1, .int (nI 0)), (2, .int (nI 0))] := lv_sub hl [2, 1, 0] rfl
  have e_3 : (nI 0) = (l_sum (cosF bk st) 0) := by rfl
  rw [e_3] at hl
  have hl : lv_has ls 3 [(0, .ref h), (1, .int (l_sum (cosF bk st) 0)), (2, .int (nI 0))] := hl
  exact lp_4 _ 0 (by omega) (Nat.lt_succ_self _) _ _ _ hP hD hS hl
def rm_X9_costBy : Room := ({ frames := 4, cells := 0, slots := 0, locals := 98 } : Room)
set_option maxHeartbeats 400000 in
set_option maxRecDepth 100000 in
theorem t_X9_costBy (l : Launch) (G : GG) (b0 sz : Nat) (h : Nat) (ad : Nat → Nat) (thr sts : Nat) (hs : Bool) (len at_ num many : Nat) (st pa bk li : Nat → Int32) (L : Nat) (t : Int32) (hL1 : 1 ≤ L) (hL : L ≤ 3) (hst : st 64 = nI L) : CT l yX9_costBy cX9_costBy 3 (some FieldType.int) (rm_X9_costBy) G b0 [.ref h, .int t] [oM h ad thr sts hs len at_ num many, aI G (ad 1) 68 st, aI G (ad 5) 64 pa, aI G (ad 6) 64 bk, aI G (ad 7) 8 li] sz (Ri G (fun (r_ : Int32) (u : Nat → Int32) => r_ = costI L t st) (fun (u : Nat → Int32) => [oM h ad thr sts hs len at_ num many, aI G (ad 1) 68 st, aI G (ad 5) 64 (drpA L t (splitP st L)), aI G (ad 6) 64 (bkD L t st), aI G (ad 7) 8 u])) := by
  refine CT.go (by decide) (Nat.le_of_ble_eq_true rfl) (fun p e s m below meth c A ls AR QQ hx hb hr hlk hml hown hnm hts hE hA hAb hsz hP hD hS hl hQQ => ?_)
  have hK := hE.1
  have hown : s.vm.findClass RX9 = some m.cls := hown
  have hl : lv_has ls 3 [(0, .ref h), (1, .int t)] := hl
  clear hsz
  refine lv_aload_n hx hb dX9_costBy_0 rfl (lv_at hl 0 rfl) ?_
  refine lv_iload_n hx hb dX9_costBy_1 rfl (lv_at hl 1 rfl) ?_
  refine fin_i (ws' := (fun (u_1 : Nat → Int32) => [oM h ad thr sts hs len at_ num many, aI G (ad 1) 68 st, aI G (ad 5) 64 (drpA L t (splitP st L)), aI G (ad 6) 64 bk, aI G (ad 7) 8 u_1])) hA hS hP hD [0, 1, 2, 4] rfl [(true, 0), (true, 1), (true, 2), (false, 3), (true, 3)] (fun _ => rfl) (by decide) (run_V (As := [.int t]) (rest := []) (n9 := 1) hx hb hml hown hts hE hAb hl.1 hS hP hD [0, 1, 2, 4] rfl (by decide) (t_X9_dropFrom l G b0 _ h ad thr sts hs len at_ num many st pa li L t (by omega) (by omega) (by omega)) (lw_V q1773 q1775 qs63 q129 q1776) 0 rfl rfl ⟨rfl, by decide, by decide, by decide +kernel⟩ ⟨Nat.le_of_ble_eq_true rfl, Nat.le_of_ble_eq_true rfl⟩ ⟨by first | exact Nat.le_of_ble_eq_true rfl | (simp only [rm_X9_costBy, rm_X9_dropFrom]; omega), by first | exact Nat.le_of_ble_eq_true rfl | (simp only [rm_X9_costBy, rm_X9_dropFrom]; omega)⟩ dX9_costBy_2 (Nat.le_of_ble_eq_true rfl) rfl rfl) (fun r_1 u_1 H locs h_1 hP hD hS => ?_)
  have hP : va_P G.1 vwCl [oM h ad thr sts hs len at_ num many, aI G (ad 1) 68 st, aI G (ad 5) 64 (drpA L t (splitP st L)), aI G (ad 6) 64 bk, aI G (ad 7) 8 u_1] _ := hP
  have hD : va_D A [oM h ad thr sts hs len at_ num many, aI G (ad 1) 68 st, aI G (ad 5) 64 (drpA L t (splitP st L)), aI G (ad 6) 64 bk, aI G (ad 7) 8 u_1] := hD
  have h_1 : r_1 = (l_sum (crmN L t (splitP st L)) 64) := h_1
  rw [h_1]
  refine lv_istore_n (lv' := [(2, .int (l_sum (crmN L t (splitP st L)) 64)), (0, .ref h), (1, .int t)]) hx hb dX9_costBy_5 rfl hl (by decide) rfl (fun ls hl => ?_)
  refine lv_aload_n hx hb dX9_costBy_6 rfl (lv_at hl 1 rfl) ?_
  refine fin_v (ws' := (fun (u_2 : Nat → Int32) => [oM h ad thr sts hs len at_ num many, aI G (ad 1) 68 st, aI G (ad 5) 64 (drpA L t (splitP st L)), aI G (ad 6) 64 (clmF (joinP L (drpA L t (splitP st L)))), aI G (ad 7) 8 u_2])) hA hS hP hD [0, 1, 2, 3, 4] rfl [(true, 0), (true, 1), (true, 2), (true, 3), (true, 4)] (fun _ => rfl) (by decide) (run_V (As := []) (rest := []) (n9 := 0) hx hb hml hown hts hE hAb hl.1 hS hP hD [0, 1, 2, 3, 4] rfl (by decide) (t_X9_joinClamped l G b0 _ h ad thr sts hs len at_ num many st (drpA L t (splitP st L)) bk u_1 L (by omega) (by omega) (by omega)) (lw_V q1810 q1812 qs69 q129 q1813) 0 rfl rfl ⟨rfl, by decide, by decide, by decide +kernel⟩ ⟨Nat.le_of_ble_eq_true rfl, Nat.le_of_ble_eq_true rfl⟩ ⟨by first | exact Nat.le_of_ble_eq_true rfl | (simp only [rm_X9_costBy, rm_X9_joinClamped]; omega), by first | exact Nat.le_of_ble_eq_true rfl | (simp only [rm_X9_costBy, rm_X9_joinClamped]; omega)⟩ dX9_costBy_7 (Nat.le_of_ble_eq_true rfl) rfl rfl) (fun u_2 H locs h_2 hP hD hS => ?_)
  have hP : va_P G.1 vwCl [oM h ad thr sts hs len at_ num many, aI G (ad 1) 68 st, aI G (ad 5) 64 (drpA L t (splitP st L)), aI G (ad 6) 64 (clmF (joinP L (drpA L t (splitP st L)))), aI G (ad 7) 8 u_2] _ := hP
  have hD : va_D A [oM h ad thr sts hs len at_ num many, aI G (ad 1) 68 st, aI G (ad 5) 64 (drpA L t (splitP st L)), aI G (ad 6) 64 (clmF (joinP L (drpA L t (splitP st L)))), aI G (ad 7) 8 u_2] := hD
  refine lv_aload_n hx hb dX9_costBy_10 rfl (lv_at hl 1 rfl) ?_
  refine fin_i (ws' := (fun (_ : Unit) => [oM h ad thr sts hs len at_ num many, aI G (ad 1) 68 st, aI G (ad 5) 64 (drpA L t (splitP st L)), aI G (ad 6) 64 (clmF (joinP L (drpA L t (splitP st L)))), aI G (ad 7) 8 u_2])) hA hS hP hD [0, 1, 3] rfl [(true, 0), (true, 1), (false, 2), (true, 2), (false, 4)] (fun _ => rfl) (by decide) (run_V (As := []) (rest := []) (n9 := 0) hx hb hml hown hts hE hAb hl.1 hS hP hD [0, 1, 3] rfl (by decide) (t_X9_costOfBack l G b0 _ h ad thr sts hs len at_ num many st (clmF (joinP L (drpA L t (splitP st L)))) ) (lw_V q1825 q1827 qs72 q129 q1828) 0 rfl rfl ⟨rfl, by decide, by decide, by decide +kernel⟩ ⟨Nat.le_of_ble_eq_true rfl, Nat.le_of_ble_eq_true rfl⟩ ⟨by first | exact Nat.le_of_ble_eq_true rfl | (simp only [rm_X9_costBy, rm_X9_costOfBack]; omega), by first | exact Nat.le_of_ble_eq_true rfl | (simp only [rm_X9_costBy, rm_X9_costOfBack]; omega)⟩ dX9_costBy_11 (Nat.le_of_ble_eq_true rfl) rfl rfl) (fun r_3 u_3 H locs h_3 hP hD hS => ?_)
  have hP : va_P G.1 vwCl [oM h ad thr sts hs len at_ num many, aI G (ad 1) 68 st, aI G (ad 5) 64 (drpA L t (splitP st L)), aI G (ad 6) 64 (clmF (joinP L (drpA L t (splitP st L)))), aI G (ad 7) 8 u_2] _ := hP
  have hD : va_D A [oM h ad thr sts hs len at_ num many, aI G (ad 1) 68 st, aI G (ad 5) 64 (drpA L t (splitP st L)), aI G (ad 6) 64 (clmF (joinP L (drpA L t (splitP st L)))), aI G (ad 7) 8 u_2] := hD
  have h_3 : r_3 = (l_sum (cosF (clmF (joinP L (drpA L t (splitP st L)))) st) 64) := h_3
  rw [h_3]
  have hP : va_P G.1 vwCl [oM h ad thr sts hs len at_ num many, aI G (ad 1) 68 st, aI G (ad 5) 64 (drpA L t (splitP st L)), aI G (ad 6) 64 (bkD L t st), aI G (ad 7) 8 u_2] _ := hP
  have hD : va_D A [oM h ad thr sts hs len at_ num many, aI G (ad 1) 68 st, aI G (ad 5) 64 (drpA L t (splitP st L)), aI G (ad 6) 64 (bkD L t st), aI G (ad 7) 8 u_2] := hD
  rw [hQQ]
  exact rt_i hx hb hr hlk  u_2 dX9_costBy_14 hP hD hS (by first | exact Nat.le_of_ble_eq_true rfl | (simp only [rm_X9_costBy]; omega)) (by first | exact Nat.le_of_ble_eq_true rfl | (simp only [rm_X9_costBy]; omega)) (by rfl)
def rm_X9_worstBy : Room := ({ frames := 4, cells := 0, slots := 0, locals := 98 } : Room)
set_option maxHeartbeats 400000 in
set_option maxRecDepth 100000 in
theorem t_X9_worstBy (l : Launch) (G : GG) (b0 sz : Nat) (h : Nat) (ad : Nat → Nat) (thr sts : Nat) (hs : Bool) (len at_ num many : Nat) (st pa bk li : Nat → Int32) (L : Nat) (t : Int32) (hL1 : 1 ≤ L) (hL : L ≤ 3) (hst : st 64 = nI L) : CT l yX9_worstBy cX9_worstBy 6 (some FieldType.int) (rm_X9_worstBy) G b0 [.ref h, .int t] [oM h ad thr sts hs len at_ num many, aI G (ad 1) 68 st, aI G (ad 5) 64 pa, aI G (ad 6) 64 bk, aI G (ad 7) 8 li] sz (Ri G (fun (r_ : Int32) (u : Nat → Int32) => r_ = wrsI (cosF (bkD L t st) st) 64) (fun (u : Nat → Int32) => [oM h ad thr sts hs len at_ num many, aI G (ad 1) 68 st, aI G (ad 5) 64 (drpA L t (splitP st L)), aI G (ad 6) 64 (bkD L t st), aI G (ad 7) 8 u])) := by
  refine CT.go (by decide) (Nat.le_of_ble_eq_true rfl) (fun p e s m below meth c A ls AR QQ hx hb hr hlk hml hown hnm hts hE hA hAb hsz hP hD hS hl hQQ => ?_)
  have hK := hE.1
  have hown : s.vm.findClass RX9 = some m.cls := hown
  have hl : lv_has ls 6 [(0, .ref h), (1, .int t)] := hl
  clear hsz
  refine lv_aload_n hx hb dX9_worstBy_0 rfl (lv_at hl 0 rfl) ?_
  refine lv_iload_n hx hb dX9_worstBy_1 rfl (lv_at hl 1 rfl) ?_
  refine fin_i (ws' := (fun (u_1 : Nat → Int32) => [oM h ad thr sts hs len at_ num many, aI G (ad 1) 68 st, aI G (ad 5) 64 (drpA L t (splitP st L)), aI G (ad 6) 64 bk, aI G (ad 7) 8 u_1])) hA hS hP hD [0, 1, 2, 4] rfl [(true, 0), (true, 1), (true, 2), (false, 3), (true, 3)] (fun _ => rfl) (by decide) (run_V (As := [.int t]) (rest := []) (n9 := 1) hx hb hml hown hts hE hAb hl.1 hS hP hD [0, 1, 2, 4] rfl (by decide) (t_X9_dropFrom l G b0 _ h ad thr sts hs len at_ num many st pa li L t (by omega) (by omega) (by omega)) (lw_V q1773 q1775 qs63 q129 q1776) 0 rfl rfl ⟨rfl, by decide, by decide, by decide +kernel⟩ ⟨Nat.le_of_ble_eq_true rfl, Nat.le_of_ble_eq_true rfl⟩ ⟨by first | exact Nat.le_of_ble_eq_true rfl | (simp only [rm_X9_worstBy, rm_X9_dropFrom]; omega), by first | exact Nat.le_of_ble_eq_true rfl | (simp only [rm_X9_worstBy, rm_X9_dropFrom]; omega)⟩ dX9_worstBy_2 (Nat.le_of_ble_eq_true rfl) rfl rfl) (fun r_1 u_1 H locs h_1 hP hD hS => ?_)
  have hP : va_P G.1 vwCl [oM h ad thr sts hs len at_ num many, aI G (ad 1) 68 st, aI G (ad 5) 64 (drpA L t (splitP st L)), aI G (ad 6) 64 bk, aI G (ad 7) 8 u_1] _ := hP
  have hD : va_D A [oM h ad thr sts hs len at_ num many, aI G (ad 1) 68 st, aI G (ad 5) 64 (drpA L t (splitP st L)), aI G (ad 6) 64 bk, aI G (ad 7) 8 u_1] := hD
  have h_1 : r_1 = (l_sum (crmN L t (splitP st L)) 64) := h_1
  rw [h_1]
  refine lv_istore_n (lv' := [(2, .int (l_sum (crmN L t (splitP st L)) 64)), (0, .ref h), (1, .int t)]) hx hb dX9_worstBy_5 rfl hl (by decide) rfl (fun ls hl => ?_)
  refine lv_aload_n hx hb dX9_worstBy_6 rfl (lv_at hl 1 rfl) ?_
  refine fin_v (ws' := (fun (u_2 : Nat → Int32) => [oM h ad thr sts hs len at_ num many, aI G (ad 1) 68 st, aI G (ad 5) 64 (drpA L t (splitP st L)), aI G (ad 6) 64 (clmF (joinP L (drpA L t (splitP st L)))), aI G (ad 7) 8 u_2])) hA hS hP hD [0, 1, 2, 3, 4] rfl [(true, 0), (true, 1), (true, 2), (true, 3), (true, 4)] (fun _ => rfl) (by decide) (run_V (As := []) (rest := []) (n9 := 0) hx hb hml hown hts hE hAb hl.1 hS hP hD [0, 1, 2, 3, 4] rfl (by decide) (t_X9_joinClamped l G b0 _ h ad thr sts hs len at_ num many st (drpA L t (splitP st L)) bk u_1 L (by omega) (by omega) (by omega)) (lw_V q1810 q1812 qs69 q129 q1813) 0 rfl rfl ⟨rfl, by decide, by decide, by decide +kernel⟩ ⟨Nat.le_of_ble_eq_true rfl, Nat.le_of_ble_eq_true rfl⟩ ⟨by first | exact Nat.le_of_ble_eq_true rfl | (simp only [rm_X9_worstBy, rm_X9_joinClamped]; omega), by first | exact Nat.le_of_ble_eq_true rfl | (simp only [rm_X9_worstBy, rm_X9_joinClamped]; omega)⟩ dX9_worstBy_7 (Nat.le_of_ble_eq_true rfl) rfl rfl) (fun u_2 H locs h_2 hP hD hS => ?_)
  have hP : va_P G.1 vwCl [oM h ad thr sts hs len at_ num many, aI G (ad 1) 68 st, aI G (ad 5) 64 (drpA L t (splitP st L)), aI G (ad 6) 64 (clmF (joinP L (drpA L t (splitP st L)))), aI G (ad 7) 8 u_2] _ := hP
  have hD : va_D A [oM h ad thr sts hs len at_ num many, aI G (ad 1) 68 st, aI G (ad 5) 64 (drpA L t (splitP st L)), aI G (ad 6) 64 (clmF (joinP L (drpA L t (splitP st L)))), aI G (ad 7) 8 u_2] := hD
  refine lv_iconst (v := nI 0) hx hb dX9_worstBy_10 (by decide) ?_
  refine lv_istore_n (lv' := [(3, .int (nI 0)), (2, .int (l_sum (crmN L t (splitP st L)) 64)), (0, .ref h), (1, .int t)]) hx hb dX9_worstBy_11 rfl hl (by decide) rfl (fun ls hl => ?_)
  refine lv_iconst (v := nI 0) hx hb dX9_worstBy_12 (by decide) ?_
  refine lv_istore (lv' := [(4, .int (nI 0)), (3, .int (nI 0)), (2, .int (l_sum (crmN L t (splitP st L)) 64)), (0, .ref h), (1, .int t)]) hx hb dX9_worstBy_13 hl (by decide) rfl (fun ls hl => ?_)
  have lp_15 : ∀ (n_15 : Nat) (k : Nat), (k ≤ 64) → (64 - k) < n_15 → ∀ (H : Heap) (locs : List Loc) (ls : Array Slot), va_P G.1 vwCl [oM h ad thr sts hs len at_ num many, aI G (ad 1) 68 st, aI G (ad 5) 64 (drpA L t (splitP st L)), aI G (ad 6) 64 (clmF (joinP L (drpA L t (splitP st L)))), aI G (ad 7) 8 u_2] H → va_D A [oM h ad thr sts hs len at_ num many, aI G (ad 1) 68 st, aI G (ad 5) 64 (drpA L t (splitP st L)), aI G (ad 6) 64 (clmF (joinP L (drpA L t (splitP st L)))), aI G (ad 7) 8 u_2] → va_S A s.heap H locs → lv_has ls 6 [(0, .ref h), (1, .int t), (3, .int (wrsI (cosF (bkD L t st) st) k)), (4, .int (nI k))] → W p l e (rm_X9_worstBy) s m AR below meth c H locs 0 0 QQ (F0 m 15 ls []) := by
    intro n_15
    induction n_15 with
    | zero => intro k hk hn_; exact absurd hn_ (Nat.not_lt_zero _)
    | succ n_15 ih_15 =>
      intro k hk hn_15 H locs ls hP hD hS hl
      refine lv_iload hx hb dX9_worstBy_15 (lv_at hl 3 rfl) ?_
      refine lv_bipush (v := nI 64) hx hb dX9_worstBy_17 (by decide) ?_
      refine N_icmp_ge (tgt := 61) hx hb dX9_worstBy_19 (by decide) (by omega) (by omega) (fun c_19 => ?_) (fun c_19 => ?_)
      · skip
        obtain rfl : k = 64 := by omega
        refine lv_iload_n hx hb dX9_worstBy_61 rfl (lv_at hl 2 rfl) ?_
        have hP : va_P G.1 vwCl [oM h ad thr sts hs len at_ num many, aI G (ad 1) 68 st, aI G (ad 5) 64 (drpA L t (splitP st L)), aI G (ad 6) 64 (bkD L t st), aI G (ad 7) 8 u_2] _ := hP
        have hD : va_D A [oM h ad thr sts hs len at_ num many, aI G (ad 1) 68 st, aI G (ad 5) 64 (drpA L t (splitP st L)), aI G (ad 6) 64 (bkD L t st), aI G (ad 7) 8 u_2] := hD
        rw [hQQ]
        exact rt_i hx hb hr hlk  u_2 dX9_worstBy_62 hP hD hS (by first | exact Nat.le_of_ble_eq_true rfl | (simp only [rm_X9_worstBy]; omega)) (by first | exact Nat.le_of_ble_eq_true rfl | (simp only [rm_X9_worstBy]; omega)) (by rfl)
      · skip
        refine lv_aload_n hx hb dX9_worstBy_22 rfl (lv_at hl 0 rfl) ?_
        refine va_get (D := G.1) (ci := 8) (v := .ref (ad 6)) (C := RX9) (T := TX9) (N := 21) hx hb hts in_X9 hown hK hP 0 rfl rfl 9 (by decide) (hts _ q1676) (fun _ h9 => h9) rfl dX9_worstBy_23 ?_
        refine lv_iload hx hb dX9_worstBy_26 (lv_at hl 3 rfl) ?_
        refine N_iald hx hb dX9_worstBy_28 hK hP 3 0 rfl rfl (by omega) (by omega) ?_
        refine lv_aload_n hx hb dX9_worstBy_29 rfl (lv_at hl 0 rfl) ?_
        refine va_get (D := G.1) (ci := 8) (v := .ref (ad 1)) (C := RX9) (T := TX9) (N := 21) hx hb hts in_X9 hown hK hP 0 rfl rfl 1 (by decide) (hts _ q1668) (fun _ h9 => h9) rfl dX9_worstBy_30 ?_
        refine lv_iload hx hb dX9_worstBy_33 (lv_at hl 3 rfl) ?_
        refine N_iald hx hb dX9_worstBy_35 hK hP 1 0 rfl rfl (by omega) (by omega) ?_
        refine lv_isub hx hb dX9_worstBy_36 ?_
        refine fin_i (ws' := (fun (_ : Unit) => [oM h ad thr sts hs len at_ num many, aI G (ad 1) 68 st, aI G (ad 5) 64 (drpA L t (splitP st L)), aI G (ad 6) 64 (clmF (joinP L (drpA L t (splitP st L)))), aI G (ad 7) 8 u_2])) hA hS hP hD [] rfl [(false, 0), (false, 1), (false, 2), (false, 3), (false, 4)] (fun _ => rfl) (by decide) (run_S (As := [.int (((clmF (joinP L (drpA L t (splitP st L)))) k) - (st k))]) (rest := []) (n9 := 1) hx hb hml hown hts hE hAb hl.1 hS hP hD [] rfl (by decide) (t_X9_size l G b0 _ (((clmF (joinP L (drpA L t (splitP st L)))) k) - (st k)) ) (lw_S q1799 q1800 q129 q1801) ⟨by decide, by decide, by decide +kernel⟩ ⟨Nat.le_of_ble_eq_true rfl, Nat.le_of_ble_eq_true rfl⟩ ⟨by first | exact Nat.le_of_ble_eq_true rfl | (simp only [rm_X9_worstBy, rm_X9_size]; omega), by first | exact Nat.le_of_ble_eq_true rfl | (simp only [rm_X9_worstBy, rm_X9_size]; omega)⟩ dX9_worstBy_37 (Nat.le_of_ble_eq_true rfl) rfl rfl) (fun r_3 u_3 H locs h_3 hP hD hS => ?_)
        have hP : va_P G.1 vwCl [oM h ad thr sts hs len at_ num many, aI G (ad 1) 68 st, aI G (ad 5) 64 (drpA L t (splitP st L)), aI G (ad 6) 64 (clmF (joinP L (drpA L t (splitP st L)))), aI G (ad 7) 8 u_2] _ := hP
        have hD : va_D A [oM h ad thr sts hs len at_ num many, aI G (ad 1) 68 st, aI G (ad 5) 64 (drpA L t (splitP st L)), aI G (ad 6) 64 (clmF (joinP L (drpA L t (splitP st L)))), aI G (ad 7) 8 u_2] := hD
        have h_3 : r_3 = (sizI (((clmF (joinP L (drpA L t (splitP st L)))) k) - (st k))) := h_3
        rw [h_3]
        refine lv_istore (lv' := [(5, .int (sizI (((clmF (joinP L (drpA L t (splitP st L)))) k) - (st k)))), (0, .ref h), (1, .int t), (3, .int (wrsI (cosF (bkD L t st) st) k)), (4, .int (nI k))]) hx hb dX9_worstBy_40 hl (by decide) rfl (fun ls hl => ?_)
        refine lv_iload hx hb dX9_worstBy_42 (lv_at hl 0 rfl) ?_
        refine lv_iload_n hx hb dX9_worstBy_44 rfl (lv_at hl 3 rfl) ?_
        have K_45 : ∀ (v_4 : Int32) (_ : v_4 = if (sizI (((clmF (joinP L (drpA L t (splitP st L)))) k) - (st k))) ≤ (wrsI (cosF (bkD L t st) st) k) then (wrsI (cosF (bkD L t st) st) k) else (sizI (((clmF (joinP L (drpA L t (splitP st L)))) k) - (st k)))) (H : Heap) (locs : List Loc) (ls : Array Slot), va_P G.1 vwCl [oM h ad thr sts hs len at_ num many, aI G (ad 1) 68 st, aI G (ad 5) 64 (drpA L t (splitP st L)), aI G (ad 6) 64 (clmF (joinP L (drpA L t (splitP st L)))), aI G (ad 7) 8 u_2] H → va_D A [oM h ad thr sts hs len at_ num many, aI G (ad 1) 68 st, aI G (ad 5) 64 (drpA L t (splitP st L)), aI G (ad 6) 64 (clmF (joinP L (drpA L t (splitP st L)))), aI G (ad 7) 8 u_2] → va_S A s.heap H locs → lv_has ls 6 [(5, .int (sizI (((clmF (joinP L (drpA L t (splitP st L)))) k) - (st k)))), (0, .ref h), (1, .int t), (3, .int (wrsI (cosF (bkD L t st) st) k)), (4, .int (nI k))] → W p l e (rm_X9_worstBy) s m AR below meth c H locs 0 0 QQ (F0 m 54 ls [.int v_4]) := by
          intro v_4 e_v_4 H locs ls hP hD hS hl
          subst e_v_4
          refine lv_istore_n (lv' := [(3, .int (if (sizI (((clmF (joinP L (drpA L t (splitP st L)))) k) - (st k))) ≤ (wrsI (cosF (bkD L t st) st) k) then (wrsI (cosF (bkD L t st) st) k) else (sizI (((clmF (joinP L (drpA L t (splitP st L)))) k) - (st k))))), (5, .int (sizI (((clmF (joinP L (drpA L t (splitP st L)))) k) - (st k)))), (0, .ref h), (1, .int t), (4, .int (nI k))]) hx hb dX9_worstBy_54 rfl hl (by decide) rfl (fun ls hl => ?_)
          refine N_iinc (a := k) (b := 1) (k9 := 4) (lv' := [(4, .int (nI (k + 1))), (3, .int (if (sizI (((clmF (joinP L (drpA L t (splitP st L)))) k) - (st k))) ≤ (wrsI (cosF (bkD L t st) st) k) then (wrsI (cosF (bkD L t st) st) k) else (sizI (((clmF (joinP L (drpA L t (splitP st L)))) k) - (st k))))), (5, .int (sizI (((clmF (joinP L (drpA L t (splitP st L)))) k) - (st k)))), (0, .ref h), (1, .int t)]) hx hb dX9_worstBy_55 hl rfl rfl (by decide) rfl (fun ls hl => ?_)
          refine lv_goto (tgt := 15) hx hb dX9_worstBy_58 (by decide) ?_
          have hl : lv_has ls 6 [(0, .ref h), (1, .int t), (3, .int (if (sizI (((clmF (joinP L (drpA L t (splitP st L)))) k) - (st k))) ≤ (wrsI (cosF (bkD L t st) st) k) then (wrsI (cosF (bkD L t st) st) k) else (sizI (((clmF (joinP L (drpA L t (splitP st L)))) k) - (st k))))), (4, .int (nI (k + 1)))] := lv_sub hl [3, 4, 1, 0] rfl
          have e_5 : (if (sizI (((clmF (joinP L (drpA L t (splitP st L)))) k) - (st k))) ≤ (wrsI (cosF (bkD L t st) st) k) then (wrsI (cosF (bkD L t st) st) k) else (sizI (((clmF (joinP L (drpA L t (splitP st L)))) k) - (st k)))) = (wrsI (cosF (bkD L t st) st) (k + 1)) := by rfl
          rw [e_5] at hl
          have hl : lv_has ls 6 [(0, .ref h), (1, .int t), (3, .int (wrsI (cosF (bkD L t st) st) (k + 1))), (4, .int (nI (k + 1)))] := hl
          exact ih_15 (k + 1) (by omega) (by omega) _ _ _ hP hD hS hl
        refine lv_icmp_le (tgt := 53) hx hb dX9_worstBy_45 (by decide) (fun c_45 => ?_) (fun c_45 => ?_)
        · skip
          refine lv_iload_n hx hb dX9_worstBy_53 rfl (lv_at hl 3 rfl) ?_
          exact K_45 (wrsI (cosF (bkD L t st) st) k) (by first | rfl | (try rw [if_pos c_45]) | simp_all) _ _ _ hP hD hS (lv_sub hl [0, 1, 2, 3, 4] rfl)
        · skip
          refine lv_iload hx hb dX9_worstBy_48 (lv_at hl 0 rfl) ?_
          refine lv_goto (tgt := 54) hx hb dX9_worstBy_50 (by decide) ?_
          exact K_45 (sizI (((clmF (joinP L (drpA L t (splitP st L)))) k) - (st k))) (by first | rfl | (try rw [if_neg c_45]) | simp_all) _ _ _ hP hD hS (lv_sub hl [0, 1, 2, 3, 4] rfl)
  have hl : lv_has ls 6 [(0, .ref h), (1, .int t), (3, .int (nI 0)), (4, .int (nI 0))] := lv_sub hl [3, 4, 1, 0] rfl
  have e_6 : (nI 0) = (wrsI (cosF (bkD L t st) st) 0) := by rfl
  rw [e_6] at hl
  have hl : lv_has ls 6 [(0, .ref h), (1, .int t), (3, .int (wrsI (cosF (bkD L t st) st) 0)), (4, .int (nI 0))] := hl
  exact lp_15 _ 0 (by omega) (Nat.lt_succ_self _) _ _ _ hP hD hS hl
def rm_X9_greatestFor : Room := ({ frames := 5, cells := 0, slots := 0, locals := 125 } : Room)
set_option maxHeartbeats 400000 in
set_option maxRecDepth 100000 in
theorem t_X9_greatestFor (l : Launch) (G : GG) (b0 sz : Nat) (h : Nat) (ad : Nat → Nat) (thr sts : Nat) (hs : Bool) (len at_ num many : Nat) (st pa bk li : Nat → Int32) (L : Nat) (b : Int32) (hL1 : 1 ≤ L) (hL : L ≤ 3) (hst : st 64 = nI L) : CT l yX9_greatestFor cX9_greatestFor 4 (some FieldType.int) (rm_X9_greatestFor) G b0 [.ref h, .int b] [oM h ad thr sts hs len at_ num many, aI G (ad 1) 68 st, aI G (ad 5) 64 pa, aI G (ad 6) 64 bk, aI G (ad 7) 8 li] sz (Ri G (fun (r_ : Int32) (u : (Nat → Int32) × (Nat → Int32) × (Nat → Int32)) => r_ = nI (bstN L b st 256)) (fun (u : (Nat → Int32) × (Nat → Int32) × (Nat → Int32)) => [oM h ad thr sts hs len at_ num many, aI G (ad 1) 68 st, aI G (ad 5) 64 u.1, aI G (ad 6) 64 u.2.1, aI G (ad 7) 8 u.2.2])) := by
  refine CT.go (by decide) (Nat.le_of_ble_eq_true rfl) (fun p e s m below meth c A ls AR QQ hx hb hr hlk hml hown hnm hts hE hA hAb hsz hP hD hS hl hQQ => ?_)
  have hK := hE.1
  have hown : s.vm.findClass RX9 = some m.cls := hown
  have hl : lv_has ls 4 [(0, .ref h), (1, .int b)] := hl
  clear hsz
  refine lv_iconst (v := nI 0) hx hb dX9_greatestFor_0 (by decide) ?_
  refine lv_istore_n (lv' := [(2, .int (nI 0)), (0, .ref h), (1, .int b)]) hx hb dX9_greatestFor_1 rfl hl (by decide) rfl (fun ls hl => ?_)
  refine lv_iconst (v := nI 0) hx hb dX9_greatestFor_2 (by decide) ?_
  refine lv_istore_n (lv' := [(3, .int (nI 0)), (2, .int (nI 0)), (0, .ref h), (1, .int b)]) hx hb dX9_greatestFor_3 rfl hl (by decide) rfl (fun ls hl => ?_)
  have lp_4 : ∀ (n_4 : Nat) (k : Nat) (pk bk2 lk : Nat → Int32), (k ≤ 256) → (256 - k) < n_4 → ∀ (H : Heap) (locs : List Loc) (ls : Array Slot), va_P G.1 vwCl [oM h ad thr sts hs len at_ num many, aI G (ad 1) 68 st, aI G (ad 5) 64 pk, aI G (ad 6) 64 bk2, aI G (ad 7) 8 lk] H → va_D A [oM h ad thr sts hs len at_ num many, aI G (ad 1) 68 st, aI G (ad 5) 64 pk, aI G (ad 6) 64 bk2, aI G (ad 7) 8 lk] → va_S A s.heap H locs → lv_has ls 4 [(0, .ref h), (1, .int b), (2, .int (nI (bstN L b st k))), (3, .int (nI k))] → W p l e (rm_X9_greatestFor) s m AR below meth c H locs 0 0 QQ (F0 m 4 ls []) := by
    intro n_4
    induction n_4 with
    | zero => intro k pk bk2 lk hk hn_; exact absurd hn_ (Nat.not_lt_zero _)
    | succ n_4 ih_4 =>
      intro k pk bk2 lk hk hn_4 H locs ls hP hD hS hl
      refine lv_iload_n hx hb dX9_greatestFor_4 rfl (lv_at hl 3 rfl) ?_
      refine lv_sipush (v := nI 255) hx hb dX9_greatestFor_5 (by decide) ?_
      refine N_icmp_gt (tgt := 32) hx hb dX9_greatestFor_8 (by decide) (by omega) (by omega) (fun c_8 => ?_) (fun c_8 => ?_)
      · skip
        obtain rfl : k = 256 := by omega
        refine lv_iload_n hx hb dX9_greatestFor_32 rfl (lv_at hl 2 rfl) ?_
        have hP : va_P G.1 vwCl [oM h ad thr sts hs len at_ num many, aI G (ad 1) 68 st, aI G (ad 5) 64 (((pk, bk2, lk)).1), aI G (ad 6) 64 (((pk, bk2, lk)).2.1), aI G (ad 7) 8 (((pk, bk2, lk)).2.2)] _ := hP
        have hD : va_D A [oM h ad thr sts hs len at_ num many, aI G (ad 1) 68 st, aI G (ad 5) 64 (((pk, bk2, lk)).1), aI G (ad 6) 64 (((pk, bk2, lk)).2.1), aI G (ad 7) 8 (((pk, bk2, lk)).2.2)] := hD
        rw [hQQ]
        exact rt_i hx hb hr hlk  ((pk, bk2, lk)) dX9_greatestFor_33 hP hD hS (by first | exact Nat.le_of_ble_eq_true rfl | (simp only [rm_X9_greatestFor]; omega)) (by first | exact Nat.le_of_ble_eq_true rfl | (simp only [rm_X9_greatestFor]; omega)) (by rfl)
      · skip
        refine lv_aload_n hx hb dX9_greatestFor_11 rfl (lv_at hl 0 rfl) ?_
        refine lv_iload_n hx hb dX9_greatestFor_12 rfl (lv_at hl 3 rfl) ?_
        refine fin_i (ws' := (fun (u_1 : Nat → Int32) => [oM h ad thr sts hs len at_ num many, aI G (ad 1) 68 st, aI G (ad 5) 64 (drpA L (nI k) (splitP st L)), aI G (ad 6) 64 (bkD L (nI k) st), aI G (ad 7) 8 u_1])) hA hS hP hD [0, 1, 2, 3, 4] rfl [(true, 0), (true, 1), (true, 2), (true, 3), (true, 4)] (fun _ => rfl) (by decide) (run_V (As := [.int (nI k)]) (rest := []) (n9 := 1) hx hb hml hown hts hE hAb hl.1 hS hP hD [0, 1, 2, 3, 4] rfl (by decide) (t_X9_costBy l G b0 _ h ad thr sts hs len at_ num many st pk bk2 lk L (nI k) (by omega) (by omega) (by omega)) (lw_V q1806 q1808 qs68 q129 q1809) 0 rfl rfl ⟨rfl, by decide, by decide, by decide +kernel⟩ ⟨Nat.le_of_ble_eq_true rfl, Nat.le_of_ble_eq_true rfl⟩ ⟨by first | exact Nat.le_of_ble_eq_true rfl | (simp only [rm_X9_greatestFor, rm_X9_costBy]; omega), by first | exact Nat.le_of_ble_eq_true rfl | (simp only [rm_X9_greatestFor, rm_X9_costBy]; omega)⟩ dX9_greatestFor_13 (Nat.le_of_ble_eq_true rfl) rfl rfl) (fun r_1 u_1 H locs h_1 hP hD hS => ?_)
        have hP : va_P G.1 vwCl [oM h ad thr sts hs len at_ num many, aI G (ad 1) 68 st, aI G (ad 5) 64 (drpA L (nI k) (splitP st L)), aI G (ad 6) 64 (bkD L (nI k) st), aI G (ad 7) 8 u_1] _ := hP
        have hD : va_D A [oM h ad thr sts hs len at_ num many, aI G (ad 1) 68 st, aI G (ad 5) 64 (drpA L (nI k) (splitP st L)), aI G (ad 6) 64 (bkD L (nI k) st), aI G (ad 7) 8 u_1] := hD
        have h_1 : r_1 = (costI L (nI k) st) := h_1
        rw [h_1]
        refine lv_iload_n hx hb dX9_greatestFor_16 rfl (lv_at hl 1 rfl) ?_
        have K_17 : ∀ (v_2 : Nat) (_ : v_2 = if b < (costI L (nI k) st) then (bstN L b st k) else k) (H : Heap) (locs : List Loc) (ls : Array Slot), va_P G.1 vwCl [oM h ad thr sts hs len at_ num many, aI G (ad 1) 68 st, aI G (ad 5) 64 (drpA L (nI k) (splitP st L)), aI G (ad 6) 64 (bkD L (nI k) st), aI G (ad 7) 8 u_1] H → va_D A [oM h ad thr sts hs len at_ num many, aI G (ad 1) 68 st, aI G (ad 5) 64 (drpA L (nI k) (splitP st L)), aI G (ad 6) 64 (bkD L (nI k) st), aI G (ad 7) 8 u_1] → va_S A s.heap H locs → lv_has ls 4 [(0, .ref h), (1, .int b), (2, .int (nI (bstN L b st k))), (3, .int (nI k))] → W p l e (rm_X9_greatestFor) s m AR below meth c H locs 0 0 QQ (F0 m 25 ls [.int (nI v_2)]) := by
          intro v_2 e_v_2 H locs ls hP hD hS hl
          subst e_v_2
          refine lv_istore_n (lv' := [(2, .int (nI (if b < (costI L (nI k) st) then (bstN L b st k) else k))), (0, .ref h), (1, .int b), (3, .int (nI k))]) hx hb dX9_greatestFor_25 rfl hl (by decide) rfl (fun ls hl => ?_)
          refine N_iinc (a := k) (b := 1) (k9 := 3) (lv' := [(3, .int (nI (k + 1))), (2, .int (nI (if b < (costI L (nI k) st) then (bstN L b st k) else k))), (0, .ref h), (1, .int b)]) hx hb dX9_greatestFor_26 hl rfl rfl (by decide) rfl (fun ls hl => ?_)
          refine lv_goto (tgt := 4) hx hb dX9_greatestFor_29 (by decide) ?_
          have hl : lv_has ls 4 [(0, .ref h), (1, .int b), (2, .int (nI (if b < (costI L (nI k) st) then (bstN L b st k) else k))), (3, .int (nI (k + 1)))] := lv_sub hl [2, 3, 1, 0] rfl
          have e_3 : (nI (if b < (costI L (nI k) st) then (bstN L b st k) else k)) = (nI (bstN L b st (k + 1))) := by rfl
          rw [e_3] at hl
          have hl : lv_has ls 4 [(0, .ref h), (1, .int b), (2, .int (nI (bstN L b st (k + 1)))), (3, .int (nI (k + 1)))] := hl
          exact ih_4 (k + 1) (drpA L (nI k) (splitP st L)) (bkD L (nI k) st) u_1 (by omega) (by omega) _ _ _ hP hD hS hl
        refine lv_icmp_gt (tgt := 24) hx hb dX9_greatestFor_17 (by decide) (fun c_17 => ?_) (fun c_17 => ?_)
        · skip
          refine lv_iload_n hx hb dX9_greatestFor_24 rfl (lv_at hl 2 rfl) ?_
          exact K_17 (bstN L b st k) (by first | rfl | (try rw [if_pos c_17]) | simp_all) _ _ _ hP hD hS (lv_sub hl [0, 1, 2, 3] rfl)
        · skip
          refine lv_iload_n hx hb dX9_greatestFor_20 rfl (lv_at hl 3 rfl) ?_
          refine lv_goto (tgt := 25) hx hb dX9_greatestFor_21 (by decide) ?_
          exact K_17 k (by first | rfl | (try rw [if_neg c_17]) | simp_all) _ _ _ hP hD hS (lv_sub hl [0, 1, 2, 3] rfl)
  have hl : lv_has ls 4 [(0, .ref h), (1, .int b), (2, .int (nI 0)), (3, .int (nI 0))] := lv_sub hl [2, 3, 1, 0] rfl
  have e_4 : (nI 0) = (nI (bstN L b st 0)) := by rfl
  rw [e_4] at hl
  have hl : lv_has ls 4 [(0, .ref h), (1, .int b), (2, .int (nI (bstN L b st 0))), (3, .int (nI 0))] := hl
  exact lp_4 _ 0 pa bk li (by omega) (Nat.lt_succ_self _) _ _ _ hP hD hS hl
def rm_X9_costBehind : Room := ({ frames := 4, cells := 0, slots := 0, locals := 98 } : Room)
set_option maxHeartbeats 400000 in
set_option maxRecDepth 100000 in
theorem t_X9_costBehind (l : Launch) (G : GG) (b0 sz : Nat) (h : Nat) (ad : Nat → Nat) (thr sts : Nat) (hs : Bool) (len at_ num many : Nat) (st pa bk li : Nat → Int32) (L pl : Nat) (hL1 : 1 ≤ L) (hL : L ≤ 3) (hst : st 64 = nI L) (hpl : pl ≤ 7) : CT l yX9_costBehind cX9_costBehind 3 (some FieldType.int) (rm_X9_costBehind) G b0 [.ref h, .int (nI pl)] [oM h ad thr sts hs len at_ num many, aI G (ad 1) 68 st, aI G (ad 5) 64 pa, aI G (ad 6) 64 bk, aI G (ad 7) 8 li] sz (Ri G (fun (r_ : Int32) (u : Nat → Int32) => r_ = l_sum (cosF (bkP L pl st) st) 64) (fun (u : Nat → Int32) => [oM h ad thr sts hs len at_ num many, aI G (ad 1) 68 st, aI G (ad 5) 64 (plnA L pl (splitP st L)), aI G (ad 6) 64 (bkP L pl st), aI G (ad 7) 8 u])) := by
  refine CT.go (by decide) (Nat.le_of_ble_eq_true rfl) (fun p e s m below meth c A ls AR QQ hx hb hr hlk hml hown hnm hts hE hA hAb hsz hP hD hS hl hQQ => ?_)
  have hK := hE.1
  have hown : s.vm.findClass RX9 = some m.cls := hown
  have hl : lv_has ls 3 [(0, .ref h), (1, .int (nI pl))] := hl
  clear hsz
  have h2p : 1 ≤ 2 ^ pl ∧ 2 ^ pl ≤ 128 := ⟨Nat.one_le_two_pow, Nat.pow_le_pow_right (by decide) hpl⟩
  refine lv_aload_n hx hb dX9_costBehind_0 rfl (lv_at hl 0 rfl) ?_
  refine fin_v (ws' := (fun (u_1 : Nat → Int32) => [oM h ad thr sts hs len at_ num many, aI G (ad 1) 68 st, aI G (ad 5) 64 (splitP st L), aI G (ad 6) 64 bk, aI G (ad 7) 8 u_1])) hA hS hP hD [0, 1, 2, 4] rfl [(true, 0), (true, 1), (true, 2), (false, 3), (true, 3)] (fun _ => rfl) (by decide) (run_V (As := []) (rest := []) (n9 := 0) hx hb hml hown hts hE hAb hl.1 hS hP hD [0, 1, 2, 4] rfl (by decide) (t_X9_split l G b0 _ h ad thr sts hs len at_ num many st pa li L (by omega) (by omega) (by omega)) (lw_V q1777 q1779 qs64 q129 q1780) 0 rfl rfl ⟨rfl, by decide, by decide, by decide +kernel⟩ ⟨Nat.le_of_ble_eq_true rfl, Nat.le_of_ble_eq_true rfl⟩ ⟨by first | exact Nat.le_of_ble_eq_true rfl | (simp only [rm_X9_costBehind, rm_X9_split]; omega), by first | exact Nat.le_of_ble_eq_true rfl | (simp only [rm_X9_costBehind, rm_X9_split]; omega)⟩ dX9_costBehind_1 (Nat.le_of_ble_eq_true rfl) rfl rfl) (fun u_1 H locs h_1 hP hD hS => ?_)
  have hP : va_P G.1 vwCl [oM h ad thr sts hs len at_ num many, aI G (ad 1) 68 st, aI G (ad 5) 64 (splitP st L), aI G (ad 6) 64 bk, aI G (ad 7) 8 u_1] _ := hP
  have hD : va_D A [oM h ad thr sts hs len at_ num many, aI G (ad 1) 68 st, aI G (ad 5) 64 (splitP st L), aI G (ad 6) 64 bk, aI G (ad 7) 8 u_1] := hD
  refine lv_iconst (v := nI 0) hx hb dX9_costBehind_4 (by decide) ?_
  refine lv_istore_n (lv' := [(2, .int (nI 0)), (0, .ref h), (1, .int (nI pl))]) hx hb dX9_costBehind_5 rfl hl (by decide) rfl (fun ls hl => ?_)
  have lp_6 : ∀ (n_6 : Nat) (k : Nat), (k ≤ 64) → (64 - k) < n_6 → ∀ (H : Heap) (locs : List Loc) (ls : Array Slot), va_P G.1 vwCl [oM h ad thr sts hs len at_ num many, aI G (ad 1) 68 st, aI G (ad 5) 64 (fillTo k (plnA L pl (splitP st L)) (splitP st L)), aI G (ad 6) 64 bk, aI G (ad 7) 8 u_1] H → va_D A [oM h ad thr sts hs len at_ num many, aI G (ad 1) 68 st, aI G (ad 5) 64 (fillTo k (plnA L pl (splitP st L)) (splitP st L)), aI G (ad 6) 64 bk, aI G (ad 7) 8 u_1] → va_S A s.heap H locs → lv_has ls 3 [(0, .ref h), (1, .int (nI pl)), (2, .int (nI k))] → W p l e (rm_X9_costBehind) s m AR below meth c H locs 0 0 QQ (F0 m 6 ls []) := by
    intro n_6
    induction n_6 with
    | zero => intro k hk hn_; exact absurd hn_ (Nat.not_lt_zero _)
    | succ n_6 ih_6 =>
      intro k hk hn_6 H locs ls hP hD hS hl
      refine lv_iload_n hx hb dX9_costBehind_6 rfl (lv_at hl 2 rfl) ?_
      refine lv_bipush (v := nI 64) hx hb dX9_costBehind_7 (by decide) ?_
      refine N_icmp_ge (tgt := 55) hx hb dX9_costBehind_9 (by decide) (by omega) (by omega) (fun c_9 => ?_) (fun c_9 => ?_)
      · skip
        obtain rfl : k = 64 := by omega
        have e_2 : ∀ j, j < 64 → (fillTo 64 (plnA L pl (splitP st L)) (splitP st L)) j = (plnA L pl (splitP st L)) j := by exact fill_pt
        have hP : va_P G.1 vwCl [oM h ad thr sts hs len at_ num many, aI G (ad 1) 68 st, aI G (ad 5) 64 (plnA L pl (splitP st L)), aI G (ad 6) 64 bk, aI G (ad 7) 8 u_1] _ := cong_P (q0 := 2) e_2 rfl rfl hP
        have hD : va_D A [oM h ad thr sts hs len at_ num many, aI G (ad 1) 68 st, aI G (ad 5) 64 (plnA L pl (splitP st L)), aI G (ad 6) 64 bk, aI G (ad 7) 8 u_1] := cong_D (q0 := 2) rfl rfl hD
        have hP : va_P G.1 vwCl [oM h ad thr sts hs len at_ num many, aI G (ad 1) 68 st, aI G (ad 5) 64 (plnA L pl (splitP st L)), aI G (ad 6) 64 bk, aI G (ad 7) 8 u_1] _ := hP
        have hD : va_D A [oM h ad thr sts hs len at_ num many, aI G (ad 1) 68 st, aI G (ad 5) 64 (plnA L pl (splitP st L)), aI G (ad 6) 64 bk, aI G (ad 7) 8 u_1] := hD
        refine lv_aload_n hx hb dX9_costBehind_55 rfl (lv_at hl 0 rfl) ?_
        refine fin_v (ws' := (fun (u_3 : Nat → Int32) => [oM h ad thr sts hs len at_ num many, aI G (ad 1) 68 st, aI G (ad 5) 64 (plnA L pl (splitP st L)), aI G (ad 6) 64 (clmF (joinP L (plnA L pl (splitP st L)))), aI G (ad 7) 8 u_3])) hA hS hP hD [0, 1, 2, 3, 4] rfl [(true, 0), (true, 1), (true, 2), (true, 3), (true, 4)] (fun _ => rfl) (by decide) (run_V (As := []) (rest := []) (n9 := 0) hx hb hml hown hts hE hAb hl.1 hS hP hD [0, 1, 2, 3, 4] rfl (by decide) (t_X9_joinClamped l G b0 _ h ad thr sts hs len at_ num many st (plnA L pl (splitP st L)) bk u_1 L (by omega) (by omega) (by omega)) (lw_V q1810 q1812 qs69 q129 q1813) 0 rfl rfl ⟨rfl, by decide, by decide, by decide +kernel⟩ ⟨Nat.le_of_ble_eq_true rfl, Nat.le_of_ble_eq_true rfl⟩ ⟨by first | exact Nat.le_of_ble_eq_true rfl | (simp only [rm_X9_costBehind, rm_X9_joinClamped]; omega), by first | exact Nat.le_of_ble_eq_true rfl | (simp only [rm_X9_costBehind, rm_X9_joinClamped]; omega)⟩ dX9_costBehind_56 (Nat.le_of_ble_eq_true rfl) rfl rfl) (fun u_3 H locs h_3 hP hD hS => ?_)
        have hP : va_P G.1 vwCl [oM h ad thr sts hs len at_ num many, aI G (ad 1) 68 st, aI G (ad 5) 64 (plnA L pl (splitP st L)), aI G (ad 6) 64 (clmF (joinP L (plnA L pl (splitP st L)))), aI G (ad 7) 8 u_3] _ := hP
        have hD : va_D A [oM h ad thr sts hs len at_ num many, aI G (ad 1) 68 st, aI G (ad 5) 64 (plnA L pl (splitP st L)), aI G (ad 6) 64 (clmF (joinP L (plnA L pl (splitP st L)))), aI G (ad 7) 8 u_3] := hD
        refine lv_aload_n hx hb dX9_costBehind_59 rfl (lv_at hl 0 rfl) ?_
        refine fin_i (ws' := (fun (_ : Unit) => [oM h ad thr sts hs len at_ num many, aI G (ad 1) 68 st, aI G (ad 5) 64 (plnA L pl (splitP st L)), aI G (ad 6) 64 (clmF (joinP L (plnA L pl (splitP st L)))), aI G (ad 7) 8 u_3])) hA hS hP hD [0, 1, 3] rfl [(true, 0), (true, 1), (false, 2), (true, 2), (false, 4)] (fun _ => rfl) (by decide) (run_V (As := []) (rest := []) (n9 := 0) hx hb hml hown hts hE hAb hl.1 hS hP hD [0, 1, 3] rfl (by decide) (t_X9_costOfBack l G b0 _ h ad thr sts hs len at_ num many st (clmF (joinP L (plnA L pl (splitP st L)))) ) (lw_V q1825 q1827 qs72 q129 q1828) 0 rfl rfl ⟨rfl, by decide, by decide, by decide +kernel⟩ ⟨Nat.le_of_ble_eq_true rfl, Nat.le_of_ble_eq_true rfl⟩ ⟨by first | exact Nat.le_of_ble_eq_true rfl | (simp only [rm_X9_costBehind, rm_X9_costOfBack]; omega), by first | exact Nat.le_of_ble_eq_true rfl | (simp only [rm_X9_costBehind, rm_X9_costOfBack]; omega)⟩ dX9_costBehind_60 (Nat.le_of_ble_eq_true rfl) rfl rfl) (fun r_4 u_4 H locs h_4 hP hD hS => ?_)
        have hP : va_P G.1 vwCl [oM h ad thr sts hs len at_ num many, aI G (ad 1) 68 st, aI G (ad 5) 64 (plnA L pl (splitP st L)), aI G (ad 6) 64 (clmF (joinP L (plnA L pl (splitP st L)))), aI G (ad 7) 8 u_3] _ := hP
        have hD : va_D A [oM h ad thr sts hs len at_ num many, aI G (ad 1) 68 st, aI G (ad 5) 64 (plnA L pl (splitP st L)), aI G (ad 6) 64 (clmF (joinP L (plnA L pl (splitP st L)))), aI G (ad 7) 8 u_3] := hD
        have h_4 : r_4 = (l_sum (cosF (clmF (joinP L (plnA L pl (splitP st L)))) st) 64) := h_4
        rw [h_4]
        have hP : va_P G.1 vwCl [oM h ad thr sts hs len at_ num many, aI G (ad 1) 68 st, aI G (ad 5) 64 (plnA L pl (splitP st L)), aI G (ad 6) 64 (bkP L pl st), aI G (ad 7) 8 u_3] _ := hP
        have hD : va_D A [oM h ad thr sts hs len at_ num many, aI G (ad 1) 68 st, aI G (ad 5) 64 (plnA L pl (splitP st L)), aI G (ad 6) 64 (bkP L pl st), aI G (ad 7) 8 u_3] := hD
        rw [hQQ]
        exact rt_i hx hb hr hlk  u_3 dX9_costBehind_63 hP hD hS (by first | exact Nat.le_of_ble_eq_true rfl | (simp only [rm_X9_costBehind]; omega)) (by first | exact Nat.le_of_ble_eq_true rfl | (simp only [rm_X9_costBehind]; omega)) (by rfl)
      · skip
        refine lv_aload_n hx hb dX9_costBehind_12 rfl (lv_at hl 0 rfl) ?_
        refine va_get (D := G.1) (ci := 8) (v := .ref (ad 5)) (C := RX9) (T := TX9) (N := 21) hx hb hts in_X9 hown hK hP 0 rfl rfl 8 (by decide) (hts _ q1675) (fun _ h9 => h9) rfl dX9_costBehind_13 ?_
        refine lv_iload_n hx hb dX9_costBehind_16 rfl (lv_at hl 2 rfl) ?_
        refine lv_aload_n hx hb dX9_costBehind_17 rfl (lv_at hl 0 rfl) ?_
        refine lv_iload_n hx hb dX9_costBehind_18 rfl (lv_at hl 2 rfl) ?_
        refine fin_i (ws' := (fun (_ : Unit) => [oM h ad thr sts hs len at_ num many, aI G (ad 1) 68 st, aI G (ad 5) 64 (fillTo k (plnA L pl (splitP st L)) (splitP st L)), aI G (ad 6) 64 bk, aI G (ad 7) 8 u_1])) hA hS hP hD [0, 1] rfl [(true, 0), (true, 1), (false, 2), (false, 3), (false, 4)] (fun _ => rfl) (by decide) (run_V (As := [.int (nI k)]) (rest := [.int (nI k), .ref (ad 5)]) (n9 := 1) hx hb hml hown hts hE hAb hl.1 hS hP hD [0, 1] rfl (by decide) (t_X9_isDifference l G b0 _ h ad thr sts hs len at_ num many st k L (by omega) (by omega) (by omega) (by omega)) (lw_V q1789 q1791 qs67 q129 q1792) 0 rfl rfl ⟨rfl, by decide, by decide, by decide +kernel⟩ ⟨Nat.le_of_ble_eq_true rfl, Nat.le_of_ble_eq_true rfl⟩ ⟨by first | exact Nat.le_of_ble_eq_true rfl | (simp only [rm_X9_costBehind, rm_X9_isDifference]; omega), by first | exact Nat.le_of_ble_eq_true rfl | (simp only [rm_X9_costBehind, rm_X9_isDifference]; omega)⟩ dX9_costBehind_19 (Nat.le_of_ble_eq_true rfl) rfl rfl) (fun r_5 u_5 H locs h_5 hP hD hS => ?_)
        have hP : va_P G.1 vwCl [oM h ad thr sts hs len at_ num many, aI G (ad 1) 68 st, aI G (ad 5) 64 (fillTo k (plnA L pl (splitP st L)) (splitP st L)), aI G (ad 6) 64 bk, aI G (ad 7) 8 u_1] _ := hP
        have hD : va_D A [oM h ad thr sts hs len at_ num many, aI G (ad 1) 68 st, aI G (ad 5) 64 (fillTo k (plnA L pl (splitP st L)) (splitP st L)), aI G (ad 6) 64 bk, aI G (ad 7) 8 u_1] := hD
        have h_5 : r_5 = (bI (isDf L k)) := h_5
        rw [h_5]
        have K_22 : ∀ (v_6 : Int32) (_ : v_6 = if (isDf L k) = true then ((((splitP st L) k) / (nI (1 * 2 ^ pl))) * (nI (1 * 2 ^ pl))) else ((splitP st L) k)) (H : Heap) (locs : List Loc) (ls : Array Slot), va_P G.1 vwCl [oM h ad thr sts hs len at_ num many, aI G (ad 1) 68 st, aI G (ad 5) 64 (fillTo k (plnA L pl (splitP st L)) (splitP st L)), aI G (ad 6) 64 bk, aI G (ad 7) 8 u_1] H → va_D A [oM h ad thr sts hs len at_ num many, aI G (ad 1) 68 st, aI G (ad 5) 64 (fillTo k (plnA L pl (splitP st L)) (splitP st L)), aI G (ad 6) 64 bk, aI G (ad 7) 8 u_1] → va_S A s.heap H locs → lv_has ls 3 [(0, .ref h), (1, .int (nI pl)), (2, .int (nI k))] → W p l e (rm_X9_costBehind) s m AR below meth c H locs 0 0 QQ (F0 m 48 ls [.int v_6, .int (nI k), .ref (ad 5)]) := by
          intro v_6 e_v_6 H locs ls hP hD hS hl
          subst e_v_6
          refine N_iast (ws' := [oM h ad thr sts hs len at_ num many, aI G (ad 1) 68 st, aI G (ad 5) 64 (upd (fillTo k (plnA L pl (splitP st L)) (splitP st L)) k (if (isDf L k) = true then ((((splitP st L) k) / (nI (1 * 2 ^ pl))) * (nI (1 * 2 ^ pl))) else ((splitP st L) k))), aI G (ad 6) 64 bk, aI G (ad 7) 8 u_1]) hx hb dX9_costBehind_48 hK hP hD hS 2 0 rfl rfl (by omega) (by omega) rfl (fun H locs hP hD hS => ?_)
          refine N_iinc (a := k) (b := 1) (k9 := 2) (lv' := [(2, .int (nI (k + 1))), (0, .ref h), (1, .int (nI pl))]) hx hb dX9_costBehind_49 hl rfl rfl (by decide) rfl (fun ls hl => ?_)
          refine lv_goto (tgt := 6) hx hb dX9_costBehind_52 (by decide) ?_
          have e_7 : (upd (fillTo k (plnA L pl (splitP st L)) (splitP st L)) k (if (isDf L k) = true then ((((splitP st L) k) / (nI (1 * 2 ^ pl))) * (nI (1 * 2 ^ pl))) else ((splitP st L) k))) = (fillTo (k + 1) (plnA L pl (splitP st L)) (splitP st L)) := by exact fill_step
          have hP : va_P G.1 vwCl [oM h ad thr sts hs len at_ num many, aI G (ad 1) 68 st, aI G (ad 5) 64 (fillTo (k + 1) (plnA L pl (splitP st L)) (splitP st L)), aI G (ad 6) 64 bk, aI G (ad 7) 8 u_1] _ := cong_P (q0 := 2) (fun j _ => congrFun e_7 j) rfl rfl hP
          have hD : va_D A [oM h ad thr sts hs len at_ num many, aI G (ad 1) 68 st, aI G (ad 5) 64 (fillTo (k + 1) (plnA L pl (splitP st L)) (splitP st L)), aI G (ad 6) 64 bk, aI G (ad 7) 8 u_1] := cong_D (q0 := 2) rfl rfl hD
          have hP : va_P G.1 vwCl [oM h ad thr sts hs len at_ num many, aI G (ad 1) 68 st, aI G (ad 5) 64 (fillTo (k + 1) (plnA L pl (splitP st L)) (splitP st L)), aI G (ad 6) 64 bk, aI G (ad 7) 8 u_1] _ := hP
          have hD : va_D A [oM h ad thr sts hs len at_ num many, aI G (ad 1) 68 st, aI G (ad 5) 64 (fillTo (k + 1) (plnA L pl (splitP st L)) (splitP st L)), aI G (ad 6) 64 bk, aI G (ad 7) 8 u_1] := hD
          have hl : lv_has ls 3 [(0, .ref h), (1, .int (nI pl)), (2, .int (nI (k + 1)))] := lv_sub hl [1, 2, 0] rfl
          exact ih_6 (k + 1) (by omega) (by omega) _ _ _ hP hD hS hl
        refine B_if_eq (tgt := 42) hx hb dX9_costBehind_22 (by decide) (fun c_22 => ?_) (fun c_22 => ?_)
        · skip
          refine lv_aload_n hx hb dX9_costBehind_42 rfl (lv_at hl 0 rfl) ?_
          refine va_get (D := G.1) (ci := 8) (v := .ref (ad 5)) (C := RX9) (T := TX9) (N := 21) hx hb hts in_X9 hown hK hP 0 rfl rfl 8 (by decide) (hts _ q1675) (fun _ h9 => h9) rfl dX9_costBehind_43 ?_
          refine lv_iload_n hx hb dX9_costBehind_46 rfl (lv_at hl 2 rfl) ?_
          refine N_iald hx hb dX9_costBehind_47 hK hP 2 0 rfl rfl (by omega) (by omega) ?_
          refine top_i (y := (splitP st L) k) (by first | exact fill_ge (Nat.le_refl _) | exact congrArg nI (fill_ge (Nat.le_refl _)) | exact congrArg bI (fill_ge (Nat.le_refl _))) ?_
          exact K_22 ((splitP st L) k) (by first | rfl | (try rw [if_neg (ne_true_of_eq_false c_22)]) | simp_all) _ _ _ hP hD hS (lv_sub hl [0, 1, 2] rfl)
        · skip
          refine lv_aload_n hx hb dX9_costBehind_25 rfl (lv_at hl 0 rfl) ?_
          refine va_get (D := G.1) (ci := 8) (v := .ref (ad 5)) (C := RX9) (T := TX9) (N := 21) hx hb hts in_X9 hown hK hP 0 rfl rfl 8 (by decide) (hts _ q1675) (fun _ h9 => h9) rfl dX9_costBehind_26 ?_
          refine lv_iload_n hx hb dX9_costBehind_29 rfl (lv_at hl 2 rfl) ?_
          refine N_iald hx hb dX9_costBehind_30 hK hP 2 0 rfl rfl (by omega) (by omega) ?_
          refine top_i (y := (splitP st L) k) (by first | exact fill_ge (Nat.le_refl _) | exact congrArg nI (fill_ge (Nat.le_refl _)) | exact congrArg bI (fill_ge (Nat.le_refl _))) ?_
          refine lv_iconst (v := nI 1) hx hb dX9_costBehind_31 (by decide) ?_
          refine lv_iload_n hx hb dX9_costBehind_32 rfl (lv_at hl 1 rfl) ?_
          refine N_ishl hx hb dX9_costBehind_33 (by omega) (by omega) ?_
          refine lv_idiv hx hb dX9_costBehind_34 (by exact nI_ne0 (by omega) (by omega)) ?_
          refine lv_iconst (v := nI 1) hx hb dX9_costBehind_35 (by decide) ?_
          refine lv_iload_n hx hb dX9_costBehind_36 rfl (lv_at hl 1 rfl) ?_
          refine N_ishl hx hb dX9_costBehind_37 (by omega) (by omega) ?_
          refine lv_imul hx hb dX9_costBehind_38 ?_
          refine lv_goto (tgt := 48) hx hb dX9_costBehind_39 (by decide) ?_
          exact K_22 ((((splitP st L) k) / (nI (1 * 2 ^ pl))) * (nI (1 * 2 ^ pl))) (by first | rfl | (try rw [if_pos c_22]) | simp_all) _ _ _ hP hD hS (lv_sub hl [0, 1, 2] rfl)
  have e_8 : (splitP st L) = (fillTo 0 (plnA L pl (splitP st L)) (splitP st L)) := by exact (fill0 _ _).symm
  have hP : va_P G.1 vwCl [oM h ad thr sts hs len at_ num many, aI G (ad 1) 68 st, aI G (ad 5) 64 (fillTo 0 (plnA L pl (splitP st L)) (splitP st L)), aI G (ad 6) 64 bk, aI G (ad 7) 8 u_1] _ := cong_P (q0 := 2) (fun j _ => congrFun e_8 j) rfl rfl hP
  have hD : va_D A [oM h ad thr sts hs len at_ num many, aI G (ad 1) 68 st, aI G (ad 5) 64 (fillTo 0 (plnA L pl (splitP st L)) (splitP st L)), aI G (ad 6) 64 bk, aI G (ad 7) 8 u_1] := cong_D (q0 := 2) rfl rfl hD
  have hP : va_P G.1 vwCl [oM h ad thr sts hs len at_ num many, aI G (ad 1) 68 st, aI G (ad 5) 64 (fillTo 0 (plnA L pl (splitP st L)) (splitP st L)), aI G (ad 6) 64 bk, aI G (ad 7) 8 u_1] _ := hP
  have hD : va_D A [oM h ad thr sts hs len at_ num many, aI G (ad 1) 68 st, aI G (ad 5) 64 (fillTo 0 (plnA L pl (splitP st L)) (splitP st L)), aI G (ad 6) 64 bk, aI G (ad 7) 8 u_1] := hD
  have hl : lv_has ls 3 [(0, .ref h), (1, .int (nI pl)), (2, .int (nI 0))] := lv_sub hl [1, 2, 0] rfl
  exact lp_6 _ 0 (by omega) (Nat.lt_succ_self _) _ _ _ hP hD hS hl
