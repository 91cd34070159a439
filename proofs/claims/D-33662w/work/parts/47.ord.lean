/-! ===== the order: laid ===== -/
section BXR
variable {s : State} {H : Heap} {locs : List Loc} {A : Nat → Prop} {ad : Nat → Nat}
theorem box_rc (hB : vb_C ad A s s.heap) (hS : va_S A s.heap H locs) {k : Nat} (hk : k < 256) : ∃ cell : Cell, H[ad k]? = some cell ∧ cell.vm.isStatics = false ∧ s.vm.findClass "java/lang/Integer" = some cell.cls := by
  obtain ⟨cell, h1, h2, h3, -⟩ := (hB.1 k hk).kept hS.2.1
  exact ⟨cell, h1, h2, h3⟩
end BXR
abbrev adT : Type := Nat × (Nat → Nat) × (Nat → Nat) × (Nat → Nat)
def adF (b L : Nat) : Nat → Nat → adT → adT
  | 0, _, s => s
  | f + 1, a, s => if a < 64 then adF b L f (nbS b L (a + 1)) (s.1 + 1, va_up s.2.1 s.1 a, va_up s.2.2.1 a s.1, va_up s.2.2.2 a b) else s
def adR (b L : Nat) (s : adT) : adT := adF b L 64 (nbS b L 0) s
theorem adF_s {b L f a : Nat} {s R : adT} (h : a < 64) (hf : 64 ≤ a + f) (e : adF b L f a s = R) : adF b L (f - 1) (nbS b L (a + 1)) (s.1 + 1, va_up s.2.1 s.1 a, va_up s.2.2.1 a s.1, va_up s.2.2.2 a b) = R := by
  have : f = (f - 1) + 1 := by omega
  rw [this] at e
  unfold adF at e
  rw [if_pos h] at e
  exact e
theorem adF_e {b L f a : Nat} {s R : adT} (h : a = 64) (e : adF b L f a s = R) : s = R := by
  cases f with
  | zero => exact e
  | succ f =>
    unfold adF at e
    rw [if_neg (by omega)] at e
    exact e
def inBd (b L x : Nat) : Bool := decide (bndC x L = b)
theorem cntN_mono {p : Nat → Bool} {a : Nat} : ∀ {b : Nat}, a ≤ b → cntN p a ≤ cntN p b := by
  intro b
  induction b with
  | zero => intro h; have : a = 0 := by omega
            rw [this]; exact Nat.le_refl _
  | succ b ih =>
    intro h
    by_cases e : a = b + 1
    · rw [e]; exact Nat.le_refl _
    · have := ih (by omega)
      show cntN p a ≤ cntN p b + _
      omega
theorem nbF_cnt {b L : Nat} : ∀ (f a : Nat), cntN (inBd b L) (nbF b L f a) = cntN (inBd b L) a := by
  intro f
  induction f with
  | zero => intro a; rfl
  | succ f ih =>
    intro a
    unfold nbF
    by_cases h : bndC a L = b
    · rw [if_pos h]
    · rw [if_neg h, ih]
      show cntN (inBd b L) a + (if inBd b L a = true then 1 else 0) = _
      have : inBd b L a = false := decide_eq_false h
      rw [this]
      rfl
theorem nbF_in {b L : Nat} : ∀ (f a : Nat), a + f = 64 → nbF b L f a < 64 → bndC (nbF b L f a) L = b := by
  intro f
  induction f with
  | zero => intro a h1 h2; unfold nbF at h2; omega
  | succ f ih =>
    intro a h1 h2
    unfold nbF at h2 ⊢
    by_cases h : bndC a L = b
    · rw [if_pos h]; exact h
    · rw [if_neg h] at h2 ⊢
      exact ih _ (by omega) h2
theorem nbS_in {b L a : Nat} (h : a ≤ 64) : nbS b L a < 64 → bndC (nbS b L a) L = b := nbF_in _ _ (by omega)
theorem nbS_cnt {b L a : Nat} : cntN (inBd b L) (nbS b L a) = cntN (inBd b L) a := nbF_cnt _ _
theorem cnt_in {b L a : Nat} (h : a < 64) (e : bndC a L = b) : cntN (inBd b L) (a + 1) = cntN (inBd b L) a + 1 ∧ cntN (inBd b L) (a + 1) ≤ cntN (inBd b L) 64 := by
  refine ⟨?_, cntN_mono (by omega)⟩
  show cntN (inBd b L) a + (if inBd b L a = true then 1 else 0) = _
  have : inBd b L a = true := decide_eq_true e
  rw [this]
  rfl
def rm_X3_add : Room := ({ frames := 6, cells := 2, slots := 4, locals := 180 } : Room)
set_option maxHeartbeats 400000 in
set_option maxRecDepth 100000 in
theorem t_X3_add (l : Launch) (G : GG) (b0 sz : Nat) (h a1 a2 a3 m_ b L : Nat) (ce pl bn : Nat → Nat) (hb9 : b ≤ 9) (hL1 : 1 ≤ L) (hL : L ≤ 3) (hcap : m_ + cntN (inBd b L) 64 ≤ 64) : CT l yX3_add cX3_add 5 none (rm_X3_add) G b0 [.ref h, .int (nI b), .int (nI L)] [oX h 2 [.ref a1, .ref a2, .ref a3, .int (nI m_)], aI G a1 64 (nF ce), aI G a2 64 (nF pl), aI G a3 64 (nF bn)] sz (Rv G (fun (_ : Unit) => True) (fun (_ : Unit) => [oX h 2 [.ref a1, .ref a2, .ref a3, .int (nI ((adR b L (m_, ce, pl, bn)).1))], aI G a1 64 (nF ((adR b L (m_, ce, pl, bn)).2.1)), aI G a2 64 (nF ((adR b L (m_, ce, pl, bn)).2.2.1)), aI G a3 64 (nF ((adR b L (m_, ce, pl, bn)).2.2.2))])) := by
  refine CT.go (by decide) (Nat.le_of_ble_eq_true rfl) (fun p e s m below meth c A ls AR QQ hx hb hr hlk hml hown hnm hts hE hA hAb hsz hP hD hS hl hQQ => ?_)
  have hK := hE.1
  have hown : s.vm.findClass RX3 = some m.cls := hown
  have hl : lv_has ls 5 [(0, .ref h), (1, .int (nI b)), (2, .int (nI L))] := hl
  clear hsz
  refine va_new (ci := 3) (fs := [.int (nI 0), .int (nI 0), .int (nI 0)]) (C := RX4) (T := TX4) (N := 3) hx hb hts in_X4 tyX4 tyX4_ok hown (hts _ q187) (hts _ q188) (hts _ q109) hK hP hD hS hA rfl (fun j hj => by rcases (show j = 0 ∨ j = 1 ∨ j = 2 by omega) with rfl | rfl | rfl <;> rfl) (by first | exact Nat.le_of_ble_eq_true rfl | omega) (by first | exact Nat.le_of_ble_eq_true rfl | omega) dX3_add_0 (fun q1 H hP hD hS => ?_)
  have hP : va_P G.1 vwCl [oX h 2 [.ref a1, .ref a2, .ref a3, .int (nI m_)], aI G a1 64 (nF ce), aI G a2 64 (nF pl), aI G a3 64 (nF bn), oX q1 3 [.int (nI 0), .int (nI 0), .int (nI 0)]] _ := hP
  have hD : va_D A [oX h 2 [.ref a1, .ref a2, .ref a3, .int (nI m_)], aI G a1 64 (nF ce), aI G a2 64 (nF pl), aI G a3 64 (nF bn), oX q1 3 [.int (nI 0), .int (nI 0), .int (nI 0)]] := hD
  refine lv_dup hx hb dX3_add_3 rfl ?_
  refine lv_iload_n hx hb dX3_add_4 rfl (lv_at hl 1 rfl) ?_
  refine lv_iload_n hx hb dX3_add_5 rfl (lv_at hl 2 rfl) ?_
  refine fin_v (ws' := (fun (_ : Unit) => [oX h 2 [.ref a1, .ref a2, .ref a3, .int (nI m_)], aI G a1 64 (nF ce), aI G a2 64 (nF pl), aI G a3 64 (nF bn), oX q1 3 [.int (nI b), .int (nI L), .int (nI (nbS b L 0))]])) hA hS hP hD [4] rfl [(false, 0), (false, 1), (false, 2), (false, 3), (true, 0)] (fun _ => rfl) (by decide) (run_I (As := [.int (nI b), .int (nI L)]) (rest := [.ref q1]) (n9 := 2) hx hb hml hown hts hE hAb hl.1 hS hP hD [4] rfl (by decide) (t_X4_init l G b0 _ q1 b L (by omega) (by omega) (by omega)) (lw_meth q191) q109 q189 q190 rfl ⟨by decide, by decide, by decide +kernel⟩ ⟨Nat.le_of_ble_eq_true rfl, Nat.le_of_ble_eq_true rfl⟩ ⟨by first | exact Nat.le_of_ble_eq_true rfl | (simp only [rm_X3_add, rm_X4_init]; omega), by first | exact Nat.le_of_ble_eq_true rfl | (simp only [rm_X3_add, rm_X4_init]; omega)⟩ dX3_add_6 (Nat.le_of_ble_eq_true rfl) rfl rfl) (fun u_2 H locs h_2 hP hD hS => ?_)
  have hP : va_P G.1 vwCl [oX h 2 [.ref a1, .ref a2, .ref a3, .int (nI m_)], aI G a1 64 (nF ce), aI G a2 64 (nF pl), aI G a3 64 (nF bn), oX q1 3 [.int (nI b), .int (nI L), .int (nI (nbS b L 0))]] _ := hP
  have hD : va_D A [oX h 2 [.ref a1, .ref a2, .ref a3, .int (nI m_)], aI G a1 64 (nF ce), aI G a2 64 (nF pl), aI G a3 64 (nF bn), oX q1 3 [.int (nI b), .int (nI L), .int (nI (nbS b L 0))]] := hD
  refine fin_r (ws' := (fun (u_3 : Nat) => [oX h 2 [.ref a1, .ref a2, .ref a3, .int (nI m_)], aI G a1 64 (nF ce), aI G a2 64 (nF pl), aI G a3 64 (nF bn), oX q1 3 [.int (nI b), .int (nI L), .int (nI (nbS b L 0))], oX u_3 4 [.ref q1]])) hA hS hP hD [4] rfl [(false, 0), (false, 1), (false, 2), (false, 3), (true, 0), (true, 1)] (fun _ => rfl) (by decide) (run_V (As := []) (rest := []) (n9 := 0) hx hb hml hown hts hE hAb hl.1 hS hP hD [4] rfl (by decide) (t_X4_iterator l G b0 _ q1 b L (nbS b L 0) ) (lw_V q214 q215 q216 q109 q217) 4 rfl rfl ⟨rfl, by decide, by decide, by decide +kernel⟩ ⟨Nat.le_of_ble_eq_true rfl, Nat.le_of_ble_eq_true rfl⟩ ⟨by first | exact Nat.le_of_ble_eq_true rfl | (simp only [rm_X3_add, rm_X4_iterator]; omega), by first | exact Nat.le_of_ble_eq_true rfl | (simp only [rm_X3_add, rm_X4_iterator]; omega)⟩ dX3_add_9 (Nat.le_of_ble_eq_true rfl) rfl rfl) (fun u_3 H locs h_3 hP hD hS => ?_)
  have hP : va_P G.1 vwCl [oX h 2 [.ref a1, .ref a2, .ref a3, .int (nI m_)], aI G a1 64 (nF ce), aI G a2 64 (nF pl), aI G a3 64 (nF bn), oX q1 3 [.int (nI b), .int (nI L), .int (nI (nbS b L 0))], oX u_3 4 [.ref q1]] _ := hP
  have hD : va_D A [oX h 2 [.ref a1, .ref a2, .ref a3, .int (nI m_)], aI G a1 64 (nF ce), aI G a2 64 (nF pl), aI G a3 64 (nF bn), oX q1 3 [.int (nI b), .int (nI L), .int (nI (nbS b L 0))], oX u_3 4 [.ref q1]] := hD
  refine W.eq (g2 := F0 m 12 ls [.ref u_3]) rfl ?_
  refine lv_astore_n (lv' := [(3, .ref u_3), (0, .ref h), (1, .int (nI b)), (2, .int (nI L))]) hx hb dX3_add_12 rfl hl (by decide) rfl (fun ls hl => ?_)
  have lp_13 : ∀ (n_13 : Nat) (f_ a_ k_ : Nat) (ce_ pl_ bn_ : Nat → Nat), (a_ ≤ 64) → (64 ≤ a_ + f_) → (a_ < 64 → bndC a_ L = b) → (k_ + cntN (inBd b L) 64 ≤ 64 + cntN (inBd b L) a_) → (adF b L f_ a_ (k_, ce_, pl_, bn_) = adR b L (m_, ce, pl, bn)) → (f_) < n_13 → ∀ (H : Heap) (locs : List Loc) (ls : Array Slot), va_P G.1 vwCl [oX h 2 [.ref a1, .ref a2, .ref a3, .int (nI k_)], aI G a1 64 (nF ce_), aI G a2 64 (nF pl_), aI G a3 64 (nF bn_), oX q1 3 [.int (nI b), .int (nI L), .int (nI a_)], oX u_3 4 [.ref q1]] H → va_D A [oX h 2 [.ref a1, .ref a2, .ref a3, .int (nI k_)], aI G a1 64 (nF ce_), aI G a2 64 (nF pl_), aI G a3 64 (nF bn_), oX q1 3 [.int (nI b), .int (nI L), .int (nI a_)], oX u_3 4 [.ref q1]] → va_S A s.heap H locs → lv_has ls 5 [(0, .ref h), (1, .int (nI b)), (2, .int (nI L)), (3, .ref u_3)] → W p l e (rm_X3_add) s m AR below meth c H locs 2 4 QQ (F0 m 13 ls []) := by
    intro n_13
    induction n_13 with
    | zero => intro f_ a_ k_ ce_ pl_ bn_ ha6 hf6 hin hk6 hj hn_; exact absurd hn_ (Nat.not_lt_zero _)
    | succ n_13 ih_13 =>
      intro f_ a_ k_ ce_ pl_ bn_ ha6 hf6 hin hk6 hj hn_13 H locs ls hP hD hS hl
      refine lv_aload_n hx hb dX3_add_13 rfl (lv_at hl 3 rfl) ?_
      refine fin_Fi (ws' := (fun (_ : Unit) => [oX h 2 [.ref a1, .ref a2, .ref a3, .int (nI k_)], aI G a1 64 (nF ce_), aI G a2 64 (nF pl_), aI G a3 64 (nF bn_), oX q1 3 [.int (nI b), .int (nI L), .int (nI a_)], oX u_3 4 [.ref q1]])) hA hS hP hD [5, 4] rfl [(false, 0), (false, 1), (false, 2), (false, 3), (true, 1), (true, 0)] (fun _ => rfl) (by decide) (run_F (As := []) (rest := []) (n9 := 0) (x := yIt_hasNext) hx hb hml hown hts hE hAb hl.1 hS hP hD [5, 4] rfl (by decide) (t_X5_hasNext l G b0 _ u_3 q1 b L a_ (by exact ha6)) (lw_F q229 q233 q235 q110 q237) (hE.2.2.2.2.1).1 5 rfl rfl ⟨by decide, by decide, by decide +kernel⟩ ⟨Nat.le_of_ble_eq_true rfl, Nat.le_of_ble_eq_true rfl⟩ ⟨by first | exact Nat.le_of_ble_eq_true rfl | (simp only [rm_X3_add, rm_X5_hasNext]; omega), by first | exact Nat.le_of_ble_eq_true rfl | (simp only [rm_X3_add, rm_X5_hasNext]; omega)⟩ dX3_add_14 (Nat.le_of_ble_eq_true rfl) rfl rfl) (fun r_4 u_4 H locs h_4 hP hD hS => ?_)
      have hP : va_P G.1 vwCl [oX h 2 [.ref a1, .ref a2, .ref a3, .int (nI k_)], aI G a1 64 (nF ce_), aI G a2 64 (nF pl_), aI G a3 64 (nF bn_), oX q1 3 [.int (nI b), .int (nI L), .int (nI a_)], oX u_3 4 [.ref q1]] _ := hP
      have hD : va_D A [oX h 2 [.ref a1, .ref a2, .ref a3, .int (nI k_)], aI G a1 64 (nF ce_), aI G a2 64 (nF pl_), aI G a3 64 (nF bn_), oX q1 3 [.int (nI b), .int (nI L), .int (nI a_)], oX u_3 4 [.ref q1]] := hD
      have h_4 : r_4 = (bI (decide (a_ < 64))) := h_4
      rw [h_4]
      refine B_if_eq (tgt := 79) hx hb dX3_add_19 (by decide) (fun c_19 => ?_) (fun c_19 => ?_)
      · skip
        have hfin := adF_e (show a_ = 64 by have := of_decide_eq_false c_19; omega) hj
        have hP : va_P G.1 vwCl [oX h 2 [.ref a1, .ref a2, .ref a3, .int (nI k_)], aI G a1 64 (nF ce_), aI G a2 64 (nF pl_), aI G a3 64 (nF bn_)] _ := hP.sub [0, 1, 2, 3] rfl
        have hD : va_D A [oX h 2 [.ref a1, .ref a2, .ref a3, .int (nI k_)], aI G a1 64 (nF ce_), aI G a2 64 (nF pl_), aI G a3 64 (nF bn_)] := hD.sub [0, 1, 2, 3] (by decide) rfl
        have e_5 : (k_) = ((adR b L (m_, ce, pl, bn)).1) := by rw [← hfin]
        rw [e_5] at hP hD
        have e_6 : (nF ce_) = (nF ((adR b L (m_, ce, pl, bn)).2.1)) := by rw [← hfin]
        have hP : va_P G.1 vwCl [oX h 2 [.ref a1, .ref a2, .ref a3, .int (nI ((adR b L (m_, ce, pl, bn)).1))], aI G a1 64 (nF ((adR b L (m_, ce, pl, bn)).2.1)), aI G a2 64 (nF pl_), aI G a3 64 (nF bn_)] _ := cong_P (q0 := 1) (fun j _ => congrFun e_6 j) rfl rfl hP
        have hD : va_D A [oX h 2 [.ref a1, .ref a2, .ref a3, .int (nI ((adR b L (m_, ce, pl, bn)).1))], aI G a1 64 (nF ((adR b L (m_, ce, pl, bn)).2.1)), aI G a2 64 (nF pl_), aI G a3 64 (nF bn_)] := cong_D (q0 := 1) rfl rfl hD
        have e_7 : (nF pl_) = (nF ((adR b L (m_, ce, pl, bn)).2.2.1)) := by rw [← hfin]
        have hP : va_P G.1 vwCl [oX h 2 [.ref a1, .ref a2, .ref a3, .int (nI ((adR b L (m_, ce, pl, bn)).1))], aI G a1 64 (nF ((adR b L (m_, ce, pl, bn)).2.1)), aI G a2 64 (nF ((adR b L (m_, ce, pl, bn)).2.2.1)), aI G a3 64 (nF bn_)] _ := cong_P (q0 := 2) (fun j _ => congrFun e_7 j) rfl rfl hP
        have hD : va_D A [oX h 2 [.ref a1, .ref a2, .ref a3, .int (nI ((adR b L (m_, ce, pl, bn)).1))], aI G a1 64 (nF ((adR b L (m_, ce, pl, bn)).2.1)), aI G a2 64 (nF ((adR b L (m_, ce, pl, bn)).2.2.1)), aI G a3 64 (nF bn_)] := cong_D (q0 := 2) rfl rfl hD
        have e_8 : (nF bn_) = (nF ((adR b L (m_, ce, pl, bn)).2.2.2)) := by rw [← hfin]
        have hP : va_P G.1 vwCl [oX h 2 [.ref a1, .ref a2, .ref a3, .int (nI ((adR b L (m_, ce, pl, bn)).1))], aI G a1 64 (nF ((adR b L (m_, ce, pl, bn)).2.1)), aI G a2 64 (nF ((adR b L (m_, ce, pl, bn)).2.2.1)), aI G a3 64 (nF ((adR b L (m_, ce, pl, bn)).2.2.2))] _ := cong_P (q0 := 3) (fun j _ => congrFun e_8 j) rfl rfl hP
        have hD : va_D A [oX h 2 [.ref a1, .ref a2, .ref a3, .int (nI ((adR b L (m_, ce, pl, bn)).1))], aI G a1 64 (nF ((adR b L (m_, ce, pl, bn)).2.1)), aI G a2 64 (nF ((adR b L (m_, ce, pl, bn)).2.2.1)), aI G a3 64 (nF ((adR b L (m_, ce, pl, bn)).2.2.2))] := cong_D (q0 := 3) rfl rfl hD
        have hP : va_P G.1 vwCl [oX h 2 [.ref a1, .ref a2, .ref a3, .int (nI ((adR b L (m_, ce, pl, bn)).1))], aI G a1 64 (nF ((adR b L (m_, ce, pl, bn)).2.1)), aI G a2 64 (nF ((adR b L (m_, ce, pl, bn)).2.2.1)), aI G a3 64 (nF ((adR b L (m_, ce, pl, bn)).2.2.2))] _ := hP
        have hD : va_D A [oX h 2 [.ref a1, .ref a2, .ref a3, .int (nI ((adR b L (m_, ce, pl, bn)).1))], aI G a1 64 (nF ((adR b L (m_, ce, pl, bn)).2.1)), aI G a2 64 (nF ((adR b L (m_, ce, pl, bn)).2.2.1)), aI G a3 64 (nF ((adR b L (m_, ce, pl, bn)).2.2.2))] := hD
        rw [hQQ]
        exact rt_v hx hb hr hlk (()) dX3_add_79 hP hD hS (by first | exact Nat.le_of_ble_eq_true rfl | (simp only [rm_X3_add]; omega)) (by first | exact Nat.le_of_ble_eq_true rfl | (simp only [rm_X3_add]; omega)) trivial
      · skip
        have hlt : a_ < 64 := of_decide_eq_true c_19
        have hbi := hin hlt
        have hci := cnt_in hlt hbi
        refine lv_aload_n hx hb dX3_add_22 rfl (lv_at hl 3 rfl) ?_
        refine fin_Fr (ws' := (fun (_ : Unit) => [oX h 2 [.ref a1, .ref a2, .ref a3, .int (nI k_)], aI G a1 64 (nF ce_), aI G a2 64 (nF pl_), aI G a3 64 (nF bn_), oX q1 3 [.int (nI b), .int (nI L), .int (nI (nbS b L (a_ + 1)))], oX u_3 4 [.ref q1]])) hA hS hP hD [5, 4] rfl [(false, 0), (false, 1), (false, 2), (false, 3), (true, 1), (true, 0)] (fun _ => rfl) (by decide) (run_F (As := []) (rest := []) (n9 := 0) (x := yIt_next) hx hb hml hown hts hE hAb hl.1 hS hP hD [5, 4] rfl (by decide) (t_X5_next l G b0 _ u_3 q1 b L a_ (by omega) (by omega) (by omega) (by omega)) (lw_F q239 q242 q244 q110 q246) (hE.2.2.2.2.1).2 5 rfl rfl ⟨by decide, by decide, by decide +kernel⟩ ⟨Nat.le_of_ble_eq_true rfl, Nat.le_of_ble_eq_true rfl⟩ ⟨by first | exact Nat.le_of_ble_eq_true rfl | (simp only [rm_X3_add, rm_X5_next]; omega), by first | exact Nat.le_of_ble_eq_true rfl | (simp only [rm_X3_add, rm_X5_next]; omega)⟩ dX3_add_23 (Nat.le_of_ble_eq_true rfl) rfl rfl) (fun u_9 H locs h_9 hP hD hS => ?_)
        have hP : va_P G.1 vwCl [oX h 2 [.ref a1, .ref a2, .ref a3, .int (nI k_)], aI G a1 64 (nF ce_), aI G a2 64 (nF pl_), aI G a3 64 (nF bn_), oX q1 3 [.int (nI b), .int (nI L), .int (nI (nbS b L (a_ + 1)))], oX u_3 4 [.ref q1]] _ := hP
        have hD : va_D A [oX h 2 [.ref a1, .ref a2, .ref a3, .int (nI k_)], aI G a1 64 (nF ce_), aI G a2 64 (nF pl_), aI G a3 64 (nF bn_), oX q1 3 [.int (nI b), .int (nI L), .int (nI (nbS b L (a_ + 1)))], oX u_3 4 [.ref q1]] := hD
        refine W.eq (g2 := F0 m 28 ls [.ref (G.2.2.2 (a_ + 128))]) rfl ?_
        refine va_castE hx hb hown (hts _ q339) (box_rc (hE.2.2.2.2.2.2.nar hAb).2.2.2.2.2.1 hS (show a_ + 128 < 256 by omega)) dX3_add_28 ?_
        refine fin_i (ws' := (fun (_ : Unit) => [oX h 2 [.ref a1, .ref a2, .ref a3, .int (nI k_)], aI G a1 64 (nF ce_), aI G a2 64 (nF pl_), aI G a3 64 (nF bn_), oX q1 3 [.int (nI b), .int (nI L), .int (nI (nbS b L (a_ + 1)))], oX u_3 4 [.ref q1]])) hA hS hP hD [] rfl [(false, 0), (false, 1), (false, 2), (false, 3), (false, 4), (false, 5)] (fun _ => rfl) (by decide) (run_VR (As := []) (rest := []) (n9 := 0) (C := "java/lang/Integer") hx hb hml hown hts hE hAb hl.1 hS hP hD [] rfl (by decide) (t_J5_intValue l G b0 _ (G.2.2.2 (a_ + 128)) (a_ + 128) (by rfl) (by omega)) (lw_V q340 q341 q342 q116 q343) (box_rc (hE.2.2.2.2.2.2.nar hAb).2.2.2.2.2.1 hS (show a_ + 128 < 256 by omega)) ⟨rfl, by decide, by decide, by decide +kernel⟩ ⟨Nat.le_of_ble_eq_true rfl, Nat.le_of_ble_eq_true rfl⟩ ⟨by first | exact Nat.le_of_ble_eq_true rfl | (simp only [rm_X3_add, rm_J5_intValue]; omega), by first | exact Nat.le_of_ble_eq_true rfl | (simp only [rm_X3_add, rm_J5_intValue]; omega)⟩ dX3_add_31 (Nat.le_of_ble_eq_true rfl) rfl rfl) (fun r_10 u_10 H locs h_10 hP hD hS => ?_)
        have hP : va_P G.1 vwCl [oX h 2 [.ref a1, .ref a2, .ref a3, .int (nI k_)], aI G a1 64 (nF ce_), aI G a2 64 (nF pl_), aI G a3 64 (nF bn_), oX q1 3 [.int (nI b), .int (nI L), .int (nI (nbS b L (a_ + 1)))], oX u_3 4 [.ref q1]] _ := hP
        have hD : va_D A [oX h 2 [.ref a1, .ref a2, .ref a3, .int (nI k_)], aI G a1 64 (nF ce_), aI G a2 64 (nF pl_), aI G a3 64 (nF bn_), oX q1 3 [.int (nI b), .int (nI L), .int (nI (nbS b L (a_ + 1)))], oX u_3 4 [.ref q1]] := hD
        have h_10 : r_10 = (vb_c (a_ + 128)) := h_10
        rw [h_10]
        refine W.eq (g2 := F0 m 34 ls [.int (nI a_)]) (by rw [box_v (show a_ < 2147483000 by omega)]) ?_
        refine lv_istore (lv' := [(4, .int (nI a_)), (0, .ref h), (1, .int (nI b)), (2, .int (nI L)), (3, .ref u_3)]) hx hb dX3_add_34 hl (by decide) rfl (fun ls hl => ?_)
        refine lv_aload_n hx hb dX3_add_36 rfl (lv_at hl 1 rfl) ?_
        refine va_get (D := G.1) (ci := 2) (v := .ref a1) (C := RX3) (T := TX3) (N := 4) hx hb hts in_X3 hown hK hP 0 rfl rfl 0 (by decide) (hts _ q344) (fun _ h9 => h9) rfl dX3_add_37 ?_
        refine lv_aload_n hx hb dX3_add_40 rfl (lv_at hl 1 rfl) ?_
        refine va_get (D := G.1) (ci := 2) (v := .int (nI k_)) (C := RX3) (T := TX3) (N := 4) hx hb hts in_X3 hown hK hP 0 rfl rfl 3 (by decide) (hts _ q350) (fun _ h9 => h9) rfl dX3_add_41 ?_
        refine lv_iload hx hb dX3_add_44 (lv_at hl 0 rfl) ?_
        refine N_iast (ws' := [oX h 2 [.ref a1, .ref a2, .ref a3, .int (nI k_)], aI G a1 64 (nF (va_up ce_ k_ a_)), aI G a2 64 (nF pl_), aI G a3 64 (nF bn_), oX q1 3 [.int (nI b), .int (nI L), .int (nI (nbS b L (a_ + 1)))], oX u_3 4 [.ref q1]]) hx hb dX3_add_46 hK hP hD hS 1 0 rfl rfl (by omega) (by omega) (by rw [nF_upd]; rfl) (fun H locs hP hD hS => ?_)
        refine lv_aload_n hx hb dX3_add_47 rfl (lv_at hl 1 rfl) ?_
        refine va_get (D := G.1) (ci := 2) (v := .ref a2) (C := RX3) (T := TX3) (N := 4) hx hb hts in_X3 hown hK hP 0 rfl rfl 1 (by decide) (hts _ q346) (fun _ h9 => h9) rfl dX3_add_48 ?_
        refine lv_iload hx hb dX3_add_51 (lv_at hl 0 rfl) ?_
        refine lv_aload_n hx hb dX3_add_53 rfl (lv_at hl 1 rfl) ?_
        refine va_get (D := G.1) (ci := 2) (v := .int (nI k_)) (C := RX3) (T := TX3) (N := 4) hx hb hts in_X3 hown hK hP 0 rfl rfl 3 (by decide) (hts _ q350) (fun _ h9 => h9) rfl dX3_add_54 ?_
        refine N_iast (ws' := [oX h 2 [.ref a1, .ref a2, .ref a3, .int (nI k_)], aI G a1 64 (nF (va_up ce_ k_ a_)), aI G a2 64 (nF (va_up pl_ a_ k_)), aI G a3 64 (nF bn_), oX q1 3 [.int (nI b), .int (nI L), .int (nI (nbS b L (a_ + 1)))], oX u_3 4 [.ref q1]]) hx hb dX3_add_57 hK hP hD hS 2 0 rfl rfl (by omega) (by omega) (by rw [nF_upd]; rfl) (fun H locs hP hD hS => ?_)
        refine lv_aload_n hx hb dX3_add_58 rfl (lv_at hl 1 rfl) ?_
        refine va_get (D := G.1) (ci := 2) (v := .ref a3) (C := RX3) (T := TX3) (N := 4) hx hb hts in_X3 hown hK hP 0 rfl rfl 2 (by decide) (hts _ q348) (fun _ h9 => h9) rfl dX3_add_59 ?_
        refine lv_iload hx hb dX3_add_62 (lv_at hl 0 rfl) ?_
        refine lv_iload_n hx hb dX3_add_64 rfl (lv_at hl 2 rfl) ?_
        refine N_iast (ws' := [oX h 2 [.ref a1, .ref a2, .ref a3, .int (nI k_)], aI G a1 64 (nF (va_up ce_ k_ a_)), aI G a2 64 (nF (va_up pl_ a_ k_)), aI G a3 64 (nF (va_up bn_ a_ b)), oX q1 3 [.int (nI b), .int (nI L), .int (nI (nbS b L (a_ + 1)))], oX u_3 4 [.ref q1]]) hx hb dX3_add_65 hK hP hD hS 3 0 rfl rfl (by omega) (by omega) (by rw [nF_upd]; rfl) (fun H locs hP hD hS => ?_)
        refine lv_aload_n hx hb dX3_add_66 rfl (lv_at hl 1 rfl) ?_
        refine lv_dup hx hb dX3_add_67 rfl ?_
        refine va_get (D := G.1) (ci := 2) (v := .int (nI k_)) (C := RX3) (T := TX3) (N := 4) hx hb hts in_X3 hown hK hP 0 rfl rfl 3 (by decide) (hts _ q350) (fun _ h9 => h9) rfl dX3_add_68 ?_
        refine lv_iconst (v := nI 1) hx hb dX3_add_71 (by decide) ?_
        refine N_iadd hx hb dX3_add_72 ?_
        refine va_put (D := G.1) (ci := 2) (v := .int (nI (k_ + 1))) (ty := .int) (C := RX3) (T := TX3) (N := 4) hx hb hts in_X3 tyX3 tyX3_ok nmX3 hown hK hP hD hS 0 rfl rfl 3 (by decide) (hts _ q350) (fun _ h9 => h9) rfl (by decide +kernel) rfl rfl (Nat.le_of_ble_eq_true rfl) dX3_add_73 (fun H locs hP hD hS => ?_)
        have hP : va_P G.1 vwCl [oX h 2 [.ref a1, .ref a2, .ref a3, .int (nI (k_ + 1))], aI G a1 64 (nF (va_up ce_ k_ a_)), aI G a2 64 (nF (va_up pl_ a_ k_)), aI G a3 64 (nF (va_up bn_ a_ b)), oX q1 3 [.int (nI b), .int (nI L), .int (nI (nbS b L (a_ + 1)))], oX u_3 4 [.ref q1]] _ := hP
        have hD : va_D A [oX h 2 [.ref a1, .ref a2, .ref a3, .int (nI (k_ + 1))], aI G a1 64 (nF (va_up ce_ k_ a_)), aI G a2 64 (nF (va_up pl_ a_ k_)), aI G a3 64 (nF (va_up bn_ a_ b)), oX q1 3 [.int (nI b), .int (nI L), .int (nI (nbS b L (a_ + 1)))], oX u_3 4 [.ref q1]] := hD
        refine lv_goto (tgt := 13) hx hb dX3_add_76 (by decide) ?_
        have hl : lv_has ls 5 [(0, .ref h), (1, .int (nI b)), (2, .int (nI L)), (3, .ref u_3)] := lv_sub hl [1, 2, 3, 4] rfl
        exact ih_13 (f_ - 1) (nbS b L (a_ + 1)) (k_ + 1) (va_up ce_ k_ a_) (va_up pl_ a_ k_) (va_up bn_ a_ b) (by exact (nbS_le (by omega)).1) (by have := (nbS_le (b := b) (L := L) (show a_ + 1 ≤ 64 by omega)).2; omega) (by exact nbS_in (by omega)) (by rw [nbS_cnt]; omega) (by exact adF_s hlt hf6 hj) (by omega) _ _ _ hP hD hS hl
  have hl : lv_has ls 5 [(0, .ref h), (1, .int (nI b)), (2, .int (nI L)), (3, .ref u_3)] := lv_sub hl [1, 2, 3, 0] rfl
  exact lp_13 _ 64 (nbS b L 0) m_ ce pl bn (by exact (nbS_le (by omega)).1) (by omega) (by exact nbS_in (by omega)) (by rw [nbS_cnt]; exact hcap) (by rfl) (Nat.lt_succ_self _) _ _ _ hP hD hS hl
