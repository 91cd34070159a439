/-! ===== the reference: texts ===== -/
section TSW
variable {p : Program} {l : Launch} {e : Jvm.Env} {R : Room} {s : State} {m : MethodId} {args : Array Value} {below : List Frame} {meth : Method} {c : Code} {H : Heap} {locs : List Loc} {cells slots : Nat} {Q : State → Prop}
variable {cc : ByteArray} {pc : Nat} {ls : Array Slot} {rest : List Value}
theorem N_tabD {dflt lo hi : Int} {offs : Array Int} {len x tgt lo' n : Nat} (hx : p.tables.exec = Jvm.exec) (hb : c.code = cc) (hdg : decode cc pc = .ok (.tableswitch dflt lo hi offs, len)) (hxx : x < 2147483648) (hlo : lo = (lo' : Int)) (hhi : hi = ((lo' + n : Nat) : Int)) (hdef : lo' ≤ x → x ≤ lo' + n → offs[x - lo']? = some dflt) (ht : (pc : Int) + dflt = (tgt : Int)) (k : W p l e R s m args below meth c H locs cells slots Q (F0 m tgt ls rest)) : W p l e R s m args below meth c H locs cells slots Q (F0 m pc ls (.int (nI x) :: rest)) := by
  have e1 : (nI x).toInt = (x : Int) := nI_toInt hxx
  by_cases h : x < lo' ∨ lo' + n < x
  · exact lv_tableOut hx hb hdg (by rw [e1, hlo, hhi]; omega) ht k
  · refine lv_tableIn hx hb hdg (by rw [e1, hlo]; omega) (by rw [e1, hhi]; omega) ?_ ht k
    have e2 : ((nI x).toInt - lo).toNat = x - lo' := by rw [e1, hlo]; omega
    rw [e2]
    exact hdef (by omega) (by omega)
end TSW
/-- the next character goes on with a number -/
def nxB (ch : Nat → Nat) (len lo hi : Nat) (b : Bool) (n i : Nat) : Bool := decide (i < len ∧ 48 ≤ ch i ∧ ch i ≤ 57 ∧ ((b = true ∧ 0 < n) ∨ (b = false ∧ lo ≤ ch i - 48)) ∧ 10 * n + (ch i - 48) ≤ hi)
def numF (ch : Nat → Nat) (len lo hi : Nat) : Nat → Bool → Nat → Nat → Bool × Nat × Nat
  | 0, b, n, i => (b, n, i)
  | f + 1, b, n, i => if nxB ch len lo hi b n i = true then numF ch len lo hi f true (10 * n + (ch i - 48)) (i + 1) else (b, n, i)
/-- a number from lo to hi, read from i on: whether there is one, its value, the place behind it -/
def rdR (ch : Nat → Nat) (len lo hi i : Nat) : Bool × Nat × Nat := numF ch len lo hi (61 - i) false 0 i
theorem numF_go {ch : Nat → Nat} {len lo hi : Nat} {b : Bool} {n i : Nat} (h : i ≤ 60) (hn : nxB ch len lo hi b n i = true) : numF ch len lo hi (61 - i) b n i = numF ch len lo hi (61 - (i + 1)) true (10 * n + (ch i - 48)) (i + 1) := by
  have : 61 - i = (61 - (i + 1)) + 1 := by omega
  rw [this]
  show (if _ then _ else _) = _
  rw [if_pos hn]
theorem numF_no {ch : Nat → Nat} {len lo hi : Nat} {b : Bool} {n i : Nat} (h : i ≤ 60) (hn : nxB ch len lo hi b n i = false) : numF ch len lo hi (61 - i) b n i = (b, n, i) := by
  have : 61 - i = (61 - (i + 1)) + 1 := by omega
  rw [this]
  show (if _ then _ else _) = _
  rw [if_neg (by rw [hn]; decide)]
theorem numF_at {ch : Nat → Nat} {len lo hi : Nat} : ∀ (f : Nat) (b : Bool) (n i : Nat), i ≤ len → n ≤ hi → (numF ch len lo hi f b n i).2.2 ≤ len ∧ (numF ch len lo hi f b n i).2.1 ≤ hi ∧ i ≤ (numF ch len lo hi f b n i).2.2 := by
  intro f
  induction f with
  | zero => intro b n i h1 h2; exact ⟨h1, h2, Nat.le_refl _⟩
  | succ f ih =>
    intro b n i h1 h2
    unfold numF
    by_cases h : nxB ch len lo hi b n i = true
    · rw [if_pos h]
      have hc := of_decide_eq_true h
      obtain ⟨a1, a2, a3⟩ := ih true (10 * n + (ch i - 48)) (i + 1) (by omega) (by omega)
      exact ⟨a1, a2, by omega⟩
    · rw [if_neg h]
      exact ⟨h1, h2, Nat.le_refl _⟩
theorem rdR_at {ch : Nat → Nat} {len lo hi i : Nat} (h : i ≤ len) : (rdR ch len lo hi i).2.2 ≤ len ∧ (rdR ch len lo hi i).2.1 ≤ hi ∧ i ≤ (rdR ch len lo hi i).2.2 := numF_at _ _ _ _ h (Nat.zero_le _)
theorem numF_lo {ch : Nat → Nat} {len lo hi : Nat} : ∀ (f : Nat) (b : Bool) (n i : Nat), (b = true → lo ≤ n) → lo ≤ 1 → (numF ch len lo hi f b n i).1 = true → lo ≤ (numF ch len lo hi f b n i).2.1 := by
  intro f
  induction f with
  | zero => intro b n i h1 _ h3; exact h1 h3
  | succ f ih =>
    intro b n i h1 hl h3
    unfold numF at h3 ⊢
    by_cases h : nxB ch len lo hi b n i = true
    · rw [if_pos h] at h3 ⊢
      refine ih true _ _ (fun _ => ?_) hl h3
      have hc := of_decide_eq_true h
      omega
    · rw [if_neg h] at h3 ⊢
      exact h1 h3
theorem rdR_lo {ch : Nat → Nat} {len lo hi i : Nat} (hl : lo ≤ 1) (h : (rdR ch len lo hi i).1 = true) : lo ≤ (rdR ch len lo hi i).2.1 := numF_lo _ _ _ _ (fun h => by cases h) hl h
def dgI (ch : Nat → Nat) (len i : Nat) : Int32 := if i < len then nI (ch i) - nI 48 else (-1)
theorem dg_sub {a : Nat} (h : a < 1000) (hi : inB (nI a - nI 48) (nI 0) (nI 9) = true) : 48 ≤ a ∧ a ≤ 57 := by
  have h1 : 48 ≤ a := by
    rcases Nat.lt_or_ge a 48 with z | z
    · have : inB (nI a - nI 48) (nI 0) (nI 9) = false := by
        unfold inB
        rw [decide_eq_true (show nI a - nI 48 < nI 0 from pk_sneg (by decide) z)]
        rfl
      rw [this] at hi
      cases hi
    · exact z
  rw [pk_sub h1, inB_nat (by omega) (by decide) (by decide)] at hi
  have := of_decide_eq_true hi
  omega
theorem dg_t {ch : Nat → Nat} {len i : Nat} (hc : ∀ j, j < len → ch j < 1000) (h : inB (dgI ch len i) (nI 0) (nI 9) = true) : i < len ∧ 48 ≤ ch i ∧ ch i ≤ 57 ∧ dgI ch len i = nI (ch i - 48) := by
  unfold dgI at h ⊢
  by_cases hi : i < len
  · rw [if_pos hi] at h ⊢
    obtain ⟨a, b⟩ := dg_sub (hc i hi) h
    exact ⟨hi, a, b, pk_sub a⟩
  · rw [if_neg hi] at h
    exact absurd h (by decide)
theorem dg_f {ch : Nat → Nat} {len i : Nat} (h : inB (dgI ch len i) (nI 0) (nI 9) = false) : ¬ (i < len ∧ 48 ≤ ch i ∧ ch i ≤ 57) := by
  intro hh
  unfold dgI at h
  rw [if_pos hh.1, pk_sub hh.2.1, inB_nat (by omega) (by decide) (by decide)] at h
  have := of_decide_eq_false h
  omega
def sgB (ch : Nat → Nat) (len i c : Nat) : Bool := if i = len then false else (if ch i = c then true else false)
def sgA (ch : Nat → Nat) (len i c : Nat) : Nat := if i = len then i else (if ch i = c then i + 1 else i)
theorem sgA_le {ch : Nat → Nat} {len i c : Nat} (h : i ≤ len) : sgA ch len i c ≤ len ∧ i ≤ sgA ch len i c := by
  unfold sgA
  repeat' split
  all_goals omega
theorem sgA_t {ch : Nat → Nat} {len i c : Nat} (h : sgB ch len i c = true) : sgA ch len i c = i + 1 := by
  unfold sgB at h
  unfold sgA
  by_cases h1 : i = len
  · rw [if_pos h1] at h; cases h
  · by_cases h2 : ch i = c
    · rw [if_neg h1, if_pos h2]
    · rw [if_neg h1, if_neg h2] at h; cases h
theorem sgA_f {ch : Nat → Nat} {len i c : Nat} (h : sgB ch len i c = false) : sgA ch len i c = i := by
  unfold sgB at h
  unfold sgA
  by_cases h1 : i = len
  · rw [if_pos h1]
  · by_cases h2 : ch i = c
    · rw [if_neg h1, if_pos h2] at h; cases h
    · rw [if_neg h1, if_neg h2]
/-- a cell and the sign behind it: whether it is one, the place, its row and column -/
def celR (ch : Nat → Nat) (len i : Nat) : Bool × Nat × Nat × Nat :=
  if (rdR ch len 0 7 i).1 = true then
    (if sgB ch len (rdR ch len 0 7 i).2.2 46 = true then
      (if (rdR ch len 0 7 (sgA ch len (rdR ch len 0 7 i).2.2 46)).1 = true then
        (sgB ch len (rdR ch len 0 7 (sgA ch len (rdR ch len 0 7 i).2.2 46)).2.2 61, sgA ch len (rdR ch len 0 7 (sgA ch len (rdR ch len 0 7 i).2.2 46)).2.2 61, (rdR ch len 0 7 i).2.1, (rdR ch len 0 7 (sgA ch len (rdR ch len 0 7 i).2.2 46)).2.1)
      else (false, (rdR ch len 0 7 (sgA ch len (rdR ch len 0 7 i).2.2 46)).2.2, 0, 0))
    else (false, sgA ch len (rdR ch len 0 7 i).2.2 46, 0, 0))
  else (false, (rdR ch len 0 7 i).2.2, 0, 0)
theorem celR_le {ch : Nat → Nat} {len i : Nat} (h : i ≤ len) : (celR ch len i).2.1 ≤ len := by
  have h1 := rdR_at (ch := ch) (lo := 0) (hi := 7) h
  have h2 := sgA_le (ch := ch) (c := 46) h1.1
  have h3 := rdR_at (ch := ch) (lo := 0) (hi := 7) h2.1
  have h4 := sgA_le (ch := ch) (c := 61) h3.1
  unfold celR
  repeat' split
  all_goals (dsimp only; omega)
def asgL (b : Bool) : Nat := if b = true then 1 else 0
/-- a cell that is given something, maybe below 0 -/
def asgM (ch : Nat → Nat) (len : Nat) (b : Bool) (i : Nat) : Bool := if b = true then (if sgB ch len i 45 = true then true else false) else false
def asgI (ch : Nat → Nat) (len : Nat) (b : Bool) (i : Nat) : Nat := if b = true then sgA ch len i 45 else i
def asgN (ch : Nat → Nat) (len : Nat) (b : Bool) (i : Nat) : Bool × Nat × Nat := rdR ch len (asgL (asgM ch len b (celR ch len i).2.1)) 255 (asgI ch len b (celR ch len i).2.1)
def asgV (ch : Nat → Nat) (len : Nat) (b : Bool) (i : Nat) : Int32 := if asgM ch len b (celR ch len i).2.1 = true then -(nI (asgN ch len b i).2.1) else nI (asgN ch len b i).2.1
theorem rd_ng {ch : Nat → Nat} {len lo hi d n i : Nat} {R : Bool × Nat × Nat} (hj : numF ch len lo hi (61 - i) (decide (0 < d)) n i = R) (h : i ≤ 60) (hn : ¬ (i < len ∧ 48 ≤ ch i ∧ ch i ≤ 57 ∧ ((0 < d ∧ 0 < n) ∨ (d = 0 ∧ lo ≤ ch i - 48)) ∧ 10 * n + (ch i - 48) ≤ hi)) : (false = true ∧ numF ch len lo hi (61 - i) (decide (0 < d)) n i = R) ∨ (false = false ∧ (decide (0 < d), n, i) = R) := by
  refine Or.inr ⟨rfl, (numF_no h (decide_eq_false ?_)).symm.trans hj⟩
  intro hh
  refine hn ⟨hh.1, hh.2.1, hh.2.2.1, ?_, hh.2.2.2.2⟩
  rcases hh.2.2.2.1 with ⟨a, b⟩ | ⟨a, b⟩
  · exact Or.inl ⟨of_decide_eq_true a, b⟩
  · exact Or.inr ⟨by have := of_decide_eq_false a; omega, b⟩
theorem rd_gg {ch : Nat → Nat} {len lo hi d n i d' n' : Nat} {R : Bool × Nat × Nat} (hj : numF ch len lo hi (61 - i) (decide (0 < d)) n i = R) (h : i ≤ 60) (hn : i < len ∧ 48 ≤ ch i ∧ ch i ≤ 57 ∧ ((0 < d ∧ 0 < n) ∨ (d = 0 ∧ lo ≤ ch i - 48)) ∧ 10 * n + (ch i - 48) ≤ hi ∧ d' = d + 1 ∧ n' = 10 * n + (ch i - 48)) : (true = true ∧ numF ch len lo hi (61 - (i + 1)) (decide (0 < d')) n' (i + 1) = R) ∨ (true = false ∧ (decide (0 < d'), n', i + 1) = R) := by
  obtain ⟨h1, h2, h3, h4, h5, h6, h7⟩ := hn
  refine Or.inl ⟨rfl, ?_⟩
  have e : decide (0 < d') = true := decide_eq_true (by omega)
  rw [e, h7]
  refine (numF_go h (decide_eq_true ⟨h1, h2, h3, ?_, h5⟩)).symm.trans hj
  rcases h4 with ⟨a, b⟩ | ⟨a, b⟩
  · exact Or.inl ⟨decide_eq_true a, b⟩
  · exact Or.inr ⟨decide_eq_false (by omega), b⟩
theorem rd_o {mo : Bool} {A R : Bool × Nat × Nat} {Q : Bool × Nat × Nat} (hj : (mo = true ∧ A = R) ∨ (mo = false ∧ Q = R)) (c : mo = false) : Q = R := by
  rcases hj with ⟨a, _⟩ | ⟨_, b⟩
  · exact absurd (c.symm.trans a) (by decide)
  · exact b
def rm_X9_reads : Room := ({ frames := 1, cells := 0, slots := 0, locals := 22 } : Room)
set_option maxHeartbeats 400000 in
set_option maxRecDepth 100000 in
theorem t_X9_reads (l : Launch) (G : GG) (b0 sz : Nat) (h : Nat) (ad : Nat → Nat) (thr sts : Nat) (hs : Bool) (len at_ num many : Nat) (ch : Nat → Nat) (lo hi_ : Nat) (hat : at_ ≤ len) (hle : len ≤ 60) (hch : ∀ j, j < len → ch j < 1000) (hlo : lo ≤ 1) (hhi : hi_ ≤ 255) : CT l yX9_reads cX9_reads 6 (some FieldType.boolean) (rm_X9_reads) G b0 [.ref h, .int (nI lo), .int (nI hi_)] [oM h ad thr sts hs len at_ num many, aI G (ad 4) 60 (nF ch)] sz (Ri G (fun (r_ : Int32) (_ : Unit) => r_ = bI ((rdR ch len lo hi_ at_).1)) (fun (_ : Unit) => [oM h ad thr sts hs len ((rdR ch len lo hi_ at_).2.2) ((rdR ch len lo hi_ at_).2.1) many, aI G (ad 4) 60 (nF ch)])) := by
  refine CT.go (by decide) (Nat.le_of_ble_eq_true rfl) (fun p e s m below meth c A ls AR QQ hx hb hr hlk hml hown hnm hts hE hA hAb hsz hP hD hS hl hQQ => ?_)
  have hK := hE.1
  have hown : s.vm.findClass RX9 = some m.cls := hown
  have hl : lv_has ls 6 [(0, .ref h), (1, .int (nI lo)), (2, .int (nI hi_))] := hl
  clear hsz
  refine lv_iconst (v := nI 0) hx hb dX9_reads_0 (by decide) ?_
  refine lv_istore_n (lv' := [(3, .int (nI 0)), (0, .ref h), (1, .int (nI lo)), (2, .int (nI hi_))]) hx hb dX9_reads_1 rfl hl (by decide) rfl (fun ls hl => ?_)
  refine lv_aload_n hx hb dX9_reads_2 rfl (lv_at hl 1 rfl) ?_
  refine lv_iconst (v := nI 0) hx hb dX9_reads_3 (by decide) ?_
  refine va_put (D := G.1) (ci := 8) (v := .int (nI 0)) (ty := .int) (C := RX9) (T := TX9) (N := 21) hx hb hts in_X9 tyX9 tyX9_ok nmX9 hown hK hP hD hS 0 rfl rfl 15 (by decide) (hts _ q1682) (fun _ h9 => h9) rfl (by decide +kernel) rfl rfl (Nat.le_of_ble_eq_true rfl) dX9_reads_4 (fun H locs hP hD hS => ?_)
  have hP : va_P G.1 vwCl [oM h ad thr sts hs len at_ 0 many, aI G (ad 4) 60 (nF ch)] _ := hP
  have hD : va_D A [oM h ad thr sts hs len at_ 0 many, aI G (ad 4) 60 (nF ch)] := hD
  refine lv_iconst (v := nI 1) hx hb dX9_reads_7 (by decide) ?_
  refine lv_istore (lv' := [(4, .int (nI 1)), (3, .int (nI 0)), (0, .ref h), (1, .int (nI lo)), (2, .int (nI hi_))]) hx hb dX9_reads_8 hl (by decide) rfl (fun ls hl => ?_)
  have lp_10 : ∀ (n_10 : Nat) (d_ n_ i_ : Nat) (mo : Bool), (i_ ≤ len) → (n_ ≤ 255) → ((mo = true ∧ numF ch len lo hi_ (61 - i_) (decide (0 < d_)) n_ i_ = rdR ch len lo hi_ at_) ∨ (mo = false ∧ (decide (0 < d_), n_, i_) = rdR ch len lo hi_ at_)) → (d_ ≤ i_) → ((61 - i_) + (if mo = true then 1 else 0)) < n_10 → ∀ (H : Heap) (locs : List Loc) (ls : Array Slot), va_P G.1 vwCl [oM h ad thr sts hs len i_ n_ many, aI G (ad 4) 60 (nF ch)] H → va_D A [oM h ad thr sts hs len i_ n_ many, aI G (ad 4) 60 (nF ch)] → va_S A s.heap H locs → lv_has ls 6 [(0, .ref h), (1, .int (nI lo)), (2, .int (nI hi_)), (3, .int (nI d_)), (4, .int (bI mo))] → W p l e (rm_X9_reads) s m AR below meth c H locs 0 0 QQ (F0 m 10 ls []) := by
    intro n_10
    induction n_10 with
    | zero => intro d_ n_ i_ mo hi hn hj hdd hn_; exact absurd hn_ (Nat.not_lt_zero _)
    | succ n_10 ih_10 =>
      intro d_ n_ i_ mo hi hn hj hdd hn_10 H locs ls hP hD hS hl
      refine lv_iload hx hb dX9_reads_10 (lv_at hl 4 rfl) ?_
      refine B_if_eq (tgt := 162) hx hb dX9_reads_12 (by decide) (fun c_12 => ?_) (fun c_12 => ?_)
      · skip
        refine lv_iload_n hx hb dX9_reads_162 rfl (lv_at hl 3 rfl) ?_
        refine N_if_le (tgt := 170) hx hb dX9_reads_163 (by decide) (by omega) (fun c_163 => ?_) (fun c_163 => ?_)
        · skip
          refine lv_iconst (v := nI 0) hx hb dX9_reads_170 (by decide) ?_
          have e_1 : (i_) = ((rdR ch len lo hi_ at_).2.2) := by have := rd_o hj c_12; rw [← this]
          rw [e_1] at hP hD
          have e_2 : (n_) = ((rdR ch len lo hi_ at_).2.1) := by have := rd_o hj c_12; rw [← this]
          rw [e_2] at hP hD
          have hP : va_P G.1 vwCl [oM h ad thr sts hs len ((rdR ch len lo hi_ at_).2.2) ((rdR ch len lo hi_ at_).2.1) many, aI G (ad 4) 60 (nF ch)] _ := hP
          have hD : va_D A [oM h ad thr sts hs len ((rdR ch len lo hi_ at_).2.2) ((rdR ch len lo hi_ at_).2.1) many, aI G (ad 4) 60 (nF ch)] := hD
          rw [hQQ]
          exact rt_z hx hb hr hlk (by first | exact bI_nar _ | rfl) (()) dX9_reads_171 hP hD hS (by first | exact Nat.le_of_ble_eq_true rfl | (simp only [rm_X9_reads]; omega)) (by first | exact Nat.le_of_ble_eq_true rfl | (simp only [rm_X9_reads]; omega)) (by first | exact bI_of1 (by have := rd_o hj c_12; rw [← this]; exact decide_eq_true (by omega)) | exact bI_of0 (by have := rd_o hj c_12; rw [← this]; exact decide_eq_false (by omega)))
        · skip
          refine lv_iconst (v := nI 1) hx hb dX9_reads_166 (by decide) ?_
          refine lv_goto (tgt := 171) hx hb dX9_reads_167 (by decide) ?_
          have e_3 : (i_) = ((rdR ch len lo hi_ at_).2.2) := by have := rd_o hj c_12; rw [← this]
          rw [e_3] at hP hD
          have e_4 : (n_) = ((rdR ch len lo hi_ at_).2.1) := by have := rd_o hj c_12; rw [← this]
          rw [e_4] at hP hD
          have hP : va_P G.1 vwCl [oM h ad thr sts hs len ((rdR ch len lo hi_ at_).2.2) ((rdR ch len lo hi_ at_).2.1) many, aI G (ad 4) 60 (nF ch)] _ := hP
          have hD : va_D A [oM h ad thr sts hs len ((rdR ch len lo hi_ at_).2.2) ((rdR ch len lo hi_ at_).2.1) many, aI G (ad 4) 60 (nF ch)] := hD
          rw [hQQ]
          exact rt_z hx hb hr hlk (by first | exact bI_nar _ | rfl) (()) dX9_reads_171 hP hD hS (by first | exact Nat.le_of_ble_eq_true rfl | (simp only [rm_X9_reads]; omega)) (by first | exact Nat.le_of_ble_eq_true rfl | (simp only [rm_X9_reads]; omega)) (by first | exact bI_of1 (by have := rd_o hj c_12; rw [← this]; exact decide_eq_true (by omega)) | exact bI_of0 (by have := rd_o hj c_12; rw [← this]; exact decide_eq_false (by omega)))
      · skip
        have hj1 : numF ch len lo hi_ (61 - i_) (decide (0 < d_)) n_ i_ = rdR ch len lo hi_ at_ := by rcases hj with ⟨_, a⟩ | ⟨a, _⟩; exact a; exact absurd (c_12.symm.trans a) (by decide)
        rw [if_pos c_12] at hn_10
        refine lv_aload_n hx hb dX9_reads_15 rfl (lv_at hl 0 rfl) ?_
        refine va_get (D := G.1) (ci := 8) (v := .int (nI i_)) (C := RX9) (T := TX9) (N := 21) hx hb hts in_X9 hown hK hP 0 rfl rfl 14 (by decide) (hts _ q1681) (fun _ h9 => h9) rfl dX9_reads_16 ?_
        refine lv_aload_n hx hb dX9_reads_19 rfl (lv_at hl 0 rfl) ?_
        refine va_get (D := G.1) (ci := 8) (v := .int (nI len)) (C := RX9) (T := TX9) (N := 21) hx hb hts in_X9 hown hK hP 0 rfl rfl 7 (by decide) (hts _ q1674) (fun _ h9 => h9) rfl dX9_reads_20 ?_
        have K_23 : ∀ (v_5 : Int32) (_ : v_5 = if i_ < len then ((nI (ch i_)) - (nI 48)) else ((-1))) (H : Heap) (locs : List Loc) (ls : Array Slot), va_P G.1 vwCl [oM h ad thr sts hs len i_ n_ many, aI G (ad 4) 60 (nF ch)] H → va_D A [oM h ad thr sts hs len i_ n_ many, aI G (ad 4) 60 (nF ch)] → va_S A s.heap H locs → lv_has ls 6 [(0, .ref h), (1, .int (nI lo)), (2, .int (nI hi_)), (3, .int (nI d_)), (4, .int (bI mo))] → W p l e (rm_X9_reads) s m AR below meth c H locs 0 0 QQ (F0 m 42 ls [.int v_5]) := by
          intro v_5 e_v_5 H locs ls hP hD hS hl
          subst e_v_5
          refine lv_istore (lv' := [(5, .int (if i_ < len then ((nI (ch i_)) - (nI 48)) else ((-1)))), (0, .ref h), (1, .int (nI lo)), (2, .int (nI hi_)), (3, .int (nI d_)), (4, .int (bI mo))]) hx hb dX9_reads_42 hl (by decide) rfl (fun ls hl => ?_)
          have hl : lv_has ls 6 [(5, .int (dgI ch len i_)), (0, .ref h), (1, .int (nI lo)), (2, .int (nI hi_)), (3, .int (nI d_)), (4, .int (bI mo))] := hl
          refine lv_iload hx hb dX9_reads_44 (lv_at hl 0 rfl) ?_
          refine lv_iconst (v := nI 0) hx hb dX9_reads_46 (by decide) ?_
          refine lv_bipush (v := nI 9) hx hb dX9_reads_47 (by decide) ?_
          refine fin_i (ws' := (fun (_ : Unit) => [oM h ad thr sts hs len i_ n_ many, aI G (ad 4) 60 (nF ch)])) hA hS hP hD [] rfl [(false, 0), (false, 1)] (fun _ => rfl) (by decide) (run_S (As := [.int (dgI ch len i_), .int (nI 0), .int (nI 9)]) (rest := []) (n9 := 3) hx hb hml hown hts hE hAb hl.1 hS hP hD [] rfl (by decide) (t_X9_within l G b0 _ (dgI ch len i_) (nI 0) (nI 9) ) (lw_S q1770 q1771 q129 q1772) ⟨by decide, by decide, by decide +kernel⟩ ⟨Nat.le_of_ble_eq_true rfl, Nat.le_of_ble_eq_true rfl⟩ ⟨by first | exact Nat.le_of_ble_eq_true rfl | (simp only [rm_X9_reads, rm_X9_within]; omega), by first | exact Nat.le_of_ble_eq_true rfl | (simp only [rm_X9_reads, rm_X9_within]; omega)⟩ dX9_reads_49 (Nat.le_of_ble_eq_true rfl) rfl rfl) (fun r_6 u_6 H locs h_6 hP hD hS => ?_)
          have hP : va_P G.1 vwCl [oM h ad thr sts hs len i_ n_ many, aI G (ad 4) 60 (nF ch)] _ := hP
          have hD : va_D A [oM h ad thr sts hs len i_ n_ many, aI G (ad 4) 60 (nF ch)] := hD
          have h_6 : r_6 = (bI (inB (dgI ch len i_) (nI 0) (nI 9))) := h_6
          rw [h_6]
          refine B_if_eq (tgt := 98) hx hb dX9_reads_52 (by decide) (fun c_52 => ?_) (fun c_52 => ?_)
          · skip
            refine lv_iconst (v := nI 0) hx hb dX9_reads_98 (by decide) ?_
            refine lv_istore (lv' := [(4, .int (nI 0)), (5, .int (dgI ch len i_)), (0, .ref h), (1, .int (nI lo)), (2, .int (nI hi_)), (3, .int (nI d_))]) hx hb dX9_reads_99 hl (by decide) rfl (fun ls hl => ?_)
            refine lv_aload_n hx hb dX9_reads_101 rfl (lv_at hl 2 rfl) ?_
            refine lv_iload hx hb dX9_reads_102 (lv_at hl 0 rfl) ?_
            refine N_if_eq (tgt := 120) hx hb dX9_reads_104 (by decide) (by omega) (fun c_104 => ?_) (fun c_104 => ?_)
            · skip
              refine lv_aload_n hx hb dX9_reads_120 rfl (lv_at hl 2 rfl) ?_
              refine va_get (D := G.1) (ci := 8) (v := .int (nI n_)) (C := RX9) (T := TX9) (N := 21) hx hb hts in_X9 hown hK hP 0 rfl rfl 15 (by decide) (hts _ q1682) (fun _ h9 => h9) rfl dX9_reads_121 ?_
              refine va_put (D := G.1) (ci := 8) (v := .int (nI n_)) (ty := .int) (C := RX9) (T := TX9) (N := 21) hx hb hts in_X9 tyX9 tyX9_ok nmX9 hown hK hP hD hS 0 rfl rfl 15 (by decide) (hts _ q1682) (fun _ h9 => h9) rfl (by decide +kernel) rfl rfl (Nat.le_of_ble_eq_true rfl) dX9_reads_124 (fun H locs hP hD hS => ?_)
              have hP : va_P G.1 vwCl [oM h ad thr sts hs len i_ n_ many, aI G (ad 4) 60 (nF ch)] _ := hP
              have hD : va_D A [oM h ad thr sts hs len i_ n_ many, aI G (ad 4) 60 (nF ch)] := hD
              refine lv_iload_n hx hb dX9_reads_127 rfl (lv_at hl 5 rfl) ?_
              refine lv_iload hx hb dX9_reads_128 (lv_at hl 0 rfl) ?_
              refine N_if_eq (tgt := 137) hx hb dX9_reads_130 (by decide) (by omega) (fun c_130 => ?_) (fun c_130 => ?_)
              · skip
                refine lv_iconst (v := nI 0) hx hb dX9_reads_137 (by decide) ?_
                refine N_iadd hx hb dX9_reads_138 ?_
                refine lv_istore_n (lv' := [(3, .int (nI d_)), (4, .int (nI 0)), (5, .int (dgI ch len i_)), (0, .ref h), (1, .int (nI lo)), (2, .int (nI hi_))]) hx hb dX9_reads_139 rfl hl (by decide) rfl (fun ls hl => ?_)
                refine lv_aload_n hx hb dX9_reads_140 rfl (lv_at hl 3 rfl) ?_
                refine lv_dup hx hb dX9_reads_141 rfl ?_
                refine va_get (D := G.1) (ci := 8) (v := .int (nI i_)) (C := RX9) (T := TX9) (N := 21) hx hb hts in_X9 hown hK hP 0 rfl rfl 14 (by decide) (hts _ q1681) (fun _ h9 => h9) rfl dX9_reads_142 ?_
                refine lv_iload hx hb dX9_reads_145 (lv_at hl 1 rfl) ?_
                refine N_if_eq (tgt := 154) hx hb dX9_reads_147 (by decide) (by omega) (fun c_147 => ?_) (fun c_147 => ?_)
                · skip
                  refine lv_iconst (v := nI 0) hx hb dX9_reads_154 (by decide) ?_
                  refine N_iadd hx hb dX9_reads_155 ?_
                  refine va_put (D := G.1) (ci := 8) (v := .int (nI i_)) (ty := .int) (C := RX9) (T := TX9) (N := 21) hx hb hts in_X9 tyX9 tyX9_ok nmX9 hown hK hP hD hS 0 rfl rfl 14 (by decide) (hts _ q1681) (fun _ h9 => h9) rfl (by decide +kernel) rfl rfl (Nat.le_of_ble_eq_true rfl) dX9_reads_156 (fun H locs hP hD hS => ?_)
                  have hP : va_P G.1 vwCl [oM h ad thr sts hs len i_ n_ many, aI G (ad 4) 60 (nF ch)] _ := hP
                  have hD : va_D A [oM h ad thr sts hs len i_ n_ many, aI G (ad 4) 60 (nF ch)] := hD
                  refine lv_goto (tgt := 10) hx hb dX9_reads_159 (by decide) ?_
                  have hl : lv_has ls 6 [(0, .ref h), (1, .int (nI lo)), (2, .int (nI hi_)), (3, .int (nI d_)), (4, .int (nI 0))] := lv_sub hl [3, 4, 5, 0, 1] rfl
                  have e_7 : (nI 0) = (bI false) := by rfl
                  rw [e_7] at hl
                  have hl : lv_has ls 6 [(0, .ref h), (1, .int (nI lo)), (2, .int (nI hi_)), (3, .int (nI d_)), (4, .int (bI false))] := hl
                  exact ih_10 d_ n_ i_ false (by omega) (by omega) (by first | exact rd_ng hj1 (by omega) (by (try have := dg_f c_52); omega) | exact rd_gg hj1 (by omega) (by omega)) (by omega) (by first | (rw [if_pos rfl]; omega) | (rw [if_neg (by decide)]; omega)) _ _ _ hP hD hS hl
                · skip
                  exfalso; omega
              · skip
                exfalso; omega
            · skip
              exfalso; omega
          · skip
            obtain ⟨d1, d2, d3, d4⟩ := dg_t hch c_52
            rw [d4] at hl
            have hl : lv_has ls 6 [(5, .int (nI (ch i_ - 48))), (0, .ref h), (1, .int (nI lo)), (2, .int (nI hi_)), (3, .int (nI d_)), (4, .int (bI mo))] := hl
            refine lv_iload_n hx hb dX9_reads_55 rfl (lv_at hl 4 rfl) ?_
            refine N_if_ne (tgt := 73) hx hb dX9_reads_56 (by decide) (by omega) (fun c_56 => ?_) (fun c_56 => ?_)
            · skip
              refine lv_aload_n hx hb dX9_reads_73 rfl (lv_at hl 1 rfl) ?_
              refine va_get (D := G.1) (ci := 8) (v := .int (nI n_)) (C := RX9) (T := TX9) (N := 21) hx hb hts in_X9 hown hK hP 0 rfl rfl 15 (by decide) (hts _ q1682) (fun _ h9 => h9) rfl dX9_reads_74 ?_
              refine N_if_le (tgt := 98) hx hb dX9_reads_77 (by decide) (by omega) (fun c_77 => ?_) (fun c_77 => ?_)
              · skip
                refine lv_iconst (v := nI 0) hx hb dX9_reads_98 (by decide) ?_
                refine lv_istore (lv' := [(4, .int (nI 0)), (5, .int (nI (ch i_ - 48))), (0, .ref h), (1, .int (nI lo)), (2, .int (nI hi_)), (3, .int (nI d_))]) hx hb dX9_reads_99 hl (by decide) rfl (fun ls hl => ?_)
                refine lv_aload_n hx hb dX9_reads_101 rfl (lv_at hl 2 rfl) ?_
                refine lv_iload hx hb dX9_reads_102 (lv_at hl 0 rfl) ?_
                refine N_if_eq (tgt := 120) hx hb dX9_reads_104 (by decide) (by omega) (fun c_104 => ?_) (fun c_104 => ?_)
                · skip
                  refine lv_aload_n hx hb dX9_reads_120 rfl (lv_at hl 2 rfl) ?_
                  refine va_get (D := G.1) (ci := 8) (v := .int (nI n_)) (C := RX9) (T := TX9) (N := 21) hx hb hts in_X9 hown hK hP 0 rfl rfl 15 (by decide) (hts _ q1682) (fun _ h9 => h9) rfl dX9_reads_121 ?_
                  refine va_put (D := G.1) (ci := 8) (v := .int (nI n_)) (ty := .int) (C := RX9) (T := TX9) (N := 21) hx hb hts in_X9 tyX9 tyX9_ok nmX9 hown hK hP hD hS 0 rfl rfl 15 (by decide) (hts _ q1682) (fun _ h9 => h9) rfl (by decide +kernel) rfl rfl (Nat.le_of_ble_eq_true rfl) dX9_reads_124 (fun H locs hP hD hS => ?_)
                  have hP : va_P G.1 vwCl [oM h ad thr sts hs len i_ n_ many, aI G (ad 4) 60 (nF ch)] _ := hP
                  have hD : va_D A [oM h ad thr sts hs len i_ n_ many, aI G (ad 4) 60 (nF ch)] := hD
                  refine lv_iload_n hx hb dX9_reads_127 rfl (lv_at hl 5 rfl) ?_
                  refine lv_iload hx hb dX9_reads_128 (lv_at hl 0 rfl) ?_
                  refine N_if_eq (tgt := 137) hx hb dX9_reads_130 (by decide) (by omega) (fun c_130 => ?_) (fun c_130 => ?_)
                  · skip
                    refine lv_iconst (v := nI 0) hx hb dX9_reads_137 (by decide) ?_
                    refine N_iadd hx hb dX9_reads_138 ?_
                    refine lv_istore_n (lv' := [(3, .int (nI d_)), (4, .int (nI 0)), (5, .int (nI (ch i_ - 48))), (0, .ref h), (1, .int (nI lo)), (2, .int (nI hi_))]) hx hb dX9_reads_139 rfl hl (by decide) rfl (fun ls hl => ?_)
                    refine lv_aload_n hx hb dX9_reads_140 rfl (lv_at hl 3 rfl) ?_
                    refine lv_dup hx hb dX9_reads_141 rfl ?_
                    refine va_get (D := G.1) (ci := 8) (v := .int (nI i_)) (C := RX9) (T := TX9) (N := 21) hx hb hts in_X9 hown hK hP 0 rfl rfl 14 (by decide) (hts _ q1681) (fun _ h9 => h9) rfl dX9_reads_142 ?_
                    refine lv_iload hx hb dX9_reads_145 (lv_at hl 1 rfl) ?_
                    refine N_if_eq (tgt := 154) hx hb dX9_reads_147 (by decide) (by omega) (fun c_147 => ?_) (fun c_147 => ?_)
                    · skip
                      refine lv_iconst (v := nI 0) hx hb dX9_reads_154 (by decide) ?_
                      refine N_iadd hx hb dX9_reads_155 ?_
                      refine va_put (D := G.1) (ci := 8) (v := .int (nI i_)) (ty := .int) (C := RX9) (T := TX9) (N := 21) hx hb hts in_X9 tyX9 tyX9_ok nmX9 hown hK hP hD hS 0 rfl rfl 14 (by decide) (hts _ q1681) (fun _ h9 => h9) rfl (by decide +kernel) rfl rfl (Nat.le_of_ble_eq_true rfl) dX9_reads_156 (fun H locs hP hD hS => ?_)
                      have hP : va_P G.1 vwCl [oM h ad thr sts hs len i_ n_ many, aI G (ad 4) 60 (nF ch)] _ := hP
                      have hD : va_D A [oM h ad thr sts hs len i_ n_ many, aI G (ad 4) 60 (nF ch)] := hD
                      refine lv_goto (tgt := 10) hx hb dX9_reads_159 (by decide) ?_
                      have hl : lv_has ls 6 [(0, .ref h), (1, .int (nI lo)), (2, .int (nI hi_)), (3, .int (nI d_)), (4, .int (nI 0))] := lv_sub hl [3, 4, 5, 0, 1] rfl
                      have e_8 : (nI 0) = (bI false) := by rfl
                      rw [e_8] at hl
                      have hl : lv_has ls 6 [(0, .ref h), (1, .int (nI lo)), (2, .int (nI hi_)), (3, .int (nI d_)), (4, .int (bI false))] := hl
                      exact ih_10 d_ n_ i_ false (by omega) (by omega) (by first | exact rd_ng hj1 (by omega) (by (try have := dg_f c_52); omega) | exact rd_gg hj1 (by omega) (by omega)) (by omega) (by first | (rw [if_pos rfl]; omega) | (rw [if_neg (by decide)]; omega)) _ _ _ hP hD hS hl
                    · skip
                      exfalso; omega
                  · skip
                    exfalso; omega
                · skip
                  exfalso; omega
              · skip
                refine lv_bipush (v := nI 10) hx hb dX9_reads_80 (by decide) ?_
                refine lv_aload_n hx hb dX9_reads_82 rfl (lv_at hl 1 rfl) ?_
                refine va_get (D := G.1) (ci := 8) (v := .int (nI n_)) (C := RX9) (T := TX9) (N := 21) hx hb hts in_X9 hown hK hP 0 rfl rfl 15 (by decide) (hts _ q1682) (fun _ h9 => h9) rfl dX9_reads_83 ?_
                refine N_imul hx hb dX9_reads_86 ?_
                refine lv_iload hx hb dX9_reads_87 (lv_at hl 0 rfl) ?_
                refine N_iadd hx hb dX9_reads_89 ?_
                refine lv_iload_n hx hb dX9_reads_90 rfl (lv_at hl 3 rfl) ?_
                refine N_icmp_gt (tgt := 98) hx hb dX9_reads_91 (by decide) (by omega) (by omega) (fun c_91 => ?_) (fun c_91 => ?_)
                · skip
                  refine lv_iconst (v := nI 0) hx hb dX9_reads_98 (by decide) ?_
                  refine lv_istore (lv' := [(4, .int (nI 0)), (5, .int (nI (ch i_ - 48))), (0, .ref h), (1, .int (nI lo)), (2, .int (nI hi_)), (3, .int (nI d_))]) hx hb dX9_reads_99 hl (by decide) rfl (fun ls hl => ?_)
                  refine lv_aload_n hx hb dX9_reads_101 rfl (lv_at hl 2 rfl) ?_
                  refine lv_iload hx hb dX9_reads_102 (lv_at hl 0 rfl) ?_
                  refine N_if_eq (tgt := 120) hx hb dX9_reads_104 (by decide) (by omega) (fun c_104 => ?_) (fun c_104 => ?_)
                  · skip
                    refine lv_aload_n hx hb dX9_reads_120 rfl (lv_at hl 2 rfl) ?_
                    refine va_get (D := G.1) (ci := 8) (v := .int (nI n_)) (C := RX9) (T := TX9) (N := 21) hx hb hts in_X9 hown hK hP 0 rfl rfl 15 (by decide) (hts _ q1682) (fun _ h9 => h9) rfl dX9_reads_121 ?_
                    refine va_put (D := G.1) (ci := 8) (v := .int (nI n_)) (ty := .int) (C := RX9) (T := TX9) (N := 21) hx hb hts in_X9 tyX9 tyX9_ok nmX9 hown hK hP hD hS 0 rfl rfl 15 (by decide) (hts _ q1682) (fun _ h9 => h9) rfl (by decide +kernel) rfl rfl (Nat.le_of_ble_eq_true rfl) dX9_reads_124 (fun H locs hP hD hS => ?_)
                    have hP : va_P G.1 vwCl [oM h ad thr sts hs len i_ n_ many, aI G (ad 4) 60 (nF ch)] _ := hP
                    have hD : va_D A [oM h ad thr sts hs len i_ n_ many, aI G (ad 4) 60 (nF ch)] := hD
                    refine lv_iload_n hx hb dX9_reads_127 rfl (lv_at hl 5 rfl) ?_
                    refine lv_iload hx hb dX9_reads_128 (lv_at hl 0 rfl) ?_
                    refine N_if_eq (tgt := 137) hx hb dX9_reads_130 (by decide) (by omega) (fun c_130 => ?_) (fun c_130 => ?_)
                    · skip
                      refine lv_iconst (v := nI 0) hx hb dX9_reads_137 (by decide) ?_
                      refine N_iadd hx hb dX9_reads_138 ?_
                      refine lv_istore_n (lv' := [(3, .int (nI d_)), (4, .int (nI 0)), (5, .int (nI (ch i_ - 48))), (0, .ref h), (1, .int (nI lo)), (2, .int (nI hi_))]) hx hb dX9_reads_139 rfl hl (by decide) rfl (fun ls hl => ?_)
                      refine lv_aload_n hx hb dX9_reads_140 rfl (lv_at hl 3 rfl) ?_
                      refine lv_dup hx hb dX9_reads_141 rfl ?_
                      refine va_get (D := G.1) (ci := 8) (v := .int (nI i_)) (C := RX9) (T := TX9) (N := 21) hx hb hts in_X9 hown hK hP 0 rfl rfl 14 (by decide) (hts _ q1681) (fun _ h9 => h9) rfl dX9_reads_142 ?_
                      refine lv_iload hx hb dX9_reads_145 (lv_at hl 1 rfl) ?_
                      refine N_if_eq (tgt := 154) hx hb dX9_reads_147 (by decide) (by omega) (fun c_147 => ?_) (fun c_147 => ?_)
                      · skip
                        refine lv_iconst (v := nI 0) hx hb dX9_reads_154 (by decide) ?_
                        refine N_iadd hx hb dX9_reads_155 ?_
                        refine va_put (D := G.1) (ci := 8) (v := .int (nI i_)) (ty := .int) (C := RX9) (T := TX9) (N := 21) hx hb hts in_X9 tyX9 tyX9_ok nmX9 hown hK hP hD hS 0 rfl rfl 14 (by decide) (hts _ q1681) (fun _ h9 => h9) rfl (by decide +kernel) rfl rfl (Nat.le_of_ble_eq_true rfl) dX9_reads_156 (fun H locs hP hD hS => ?_)
                        have hP : va_P G.1 vwCl [oM h ad thr sts hs len i_ n_ many, aI G (ad 4) 60 (nF ch)] _ := hP
                        have hD : va_D A [oM h ad thr sts hs len i_ n_ many, aI G (ad 4) 60 (nF ch)] := hD
                        refine lv_goto (tgt := 10) hx hb dX9_reads_159 (by decide) ?_
                        have hl : lv_has ls 6 [(0, .ref h), (1, .int (nI lo)), (2, .int (nI hi_)), (3, .int (nI d_)), (4, .int (nI 0))] := lv_sub hl [3, 4, 5, 0, 1] rfl
                        have e_9 : (nI 0) = (bI false) := by rfl
                        rw [e_9] at hl
                        have hl : lv_has ls 6 [(0, .ref h), (1, .int (nI lo)), (2, .int (nI hi_)), (3, .int (nI d_)), (4, .int (bI false))] := hl
                        exact ih_10 d_ n_ i_ false (by omega) (by omega) (by first | exact rd_ng hj1 (by omega) (by (try have := dg_f c_52); omega) | exact rd_gg hj1 (by omega) (by omega)) (by omega) (by first | (rw [if_pos rfl]; omega) | (rw [if_neg (by decide)]; omega)) _ _ _ hP hD hS hl
                      · skip
                        exfalso; omega
                    · skip
                      exfalso; omega
                  · skip
                    exfalso; omega
                · skip
                  refine lv_iconst (v := nI 1) hx hb dX9_reads_94 (by decide) ?_
                  refine lv_goto (tgt := 99) hx hb dX9_reads_95 (by decide) ?_
                  refine lv_istore (lv' := [(4, .int (nI 1)), (5, .int (nI (ch i_ - 48))), (0, .ref h), (1, .int (nI lo)), (2, .int (nI hi_)), (3, .int (nI d_))]) hx hb dX9_reads_99 hl (by decide) rfl (fun ls hl => ?_)
                  refine lv_aload_n hx hb dX9_reads_101 rfl (lv_at hl 2 rfl) ?_
                  refine lv_iload hx hb dX9_reads_102 (lv_at hl 0 rfl) ?_
                  refine N_if_eq (tgt := 120) hx hb dX9_reads_104 (by decide) (by omega) (fun c_104 => ?_) (fun c_104 => ?_)
                  · skip
                    exfalso; omega
                  · skip
                    refine lv_bipush (v := nI 10) hx hb dX9_reads_107 (by decide) ?_
                    refine lv_aload_n hx hb dX9_reads_109 rfl (lv_at hl 2 rfl) ?_
                    refine va_get (D := G.1) (ci := 8) (v := .int (nI n_)) (C := RX9) (T := TX9) (N := 21) hx hb hts in_X9 hown hK hP 0 rfl rfl 15 (by decide) (hts _ q1682) (fun _ h9 => h9) rfl dX9_reads_110 ?_
                    refine N_imul hx hb dX9_reads_113 ?_
                    refine lv_iload hx hb dX9_reads_114 (lv_at hl 1 rfl) ?_
                    refine N_iadd hx hb dX9_reads_116 ?_
                    refine lv_goto (tgt := 124) hx hb dX9_reads_117 (by decide) ?_
                    refine va_put (D := G.1) (ci := 8) (v := .int (nI ((10 * n_) + (ch i_ - 48)))) (ty := .int) (C := RX9) (T := TX9) (N := 21) hx hb hts in_X9 tyX9 tyX9_ok nmX9 hown hK hP hD hS 0 rfl rfl 15 (by decide) (hts _ q1682) (fun _ h9 => h9) rfl (by decide +kernel) rfl rfl (Nat.le_of_ble_eq_true rfl) dX9_reads_124 (fun H locs hP hD hS => ?_)
                    have hP : va_P G.1 vwCl [oM h ad thr sts hs len i_ ((10 * n_) + (ch i_ - 48)) many, aI G (ad 4) 60 (nF ch)] _ := hP
                    have hD : va_D A [oM h ad thr sts hs len i_ ((10 * n_) + (ch i_ - 48)) many, aI G (ad 4) 60 (nF ch)] := hD
                    refine lv_iload_n hx hb dX9_reads_127 rfl (lv_at hl 5 rfl) ?_
                    refine lv_iload hx hb dX9_reads_128 (lv_at hl 0 rfl) ?_
                    refine N_if_eq (tgt := 137) hx hb dX9_reads_130 (by decide) (by omega) (fun c_130 => ?_) (fun c_130 => ?_)
                    · skip
                      exfalso; omega
                    · skip
                      refine lv_iconst (v := nI 1) hx hb dX9_reads_133 (by decide) ?_
                      refine lv_goto (tgt := 138) hx hb dX9_reads_134 (by decide) ?_
                      refine N_iadd hx hb dX9_reads_138 ?_
                      refine lv_istore_n (lv' := [(3, .int (nI (d_ + 1))), (4, .int (nI 1)), (5, .int (nI (ch i_ - 48))), (0, .ref h), (1, .int (nI lo)), (2, .int (nI hi_))]) hx hb dX9_reads_139 rfl hl (by decide) rfl (fun ls hl => ?_)
                      refine lv_aload_n hx hb dX9_reads_140 rfl (lv_at hl 3 rfl) ?_
                      refine lv_dup hx hb dX9_reads_141 rfl ?_
                      refine va_get (D := G.1) (ci := 8) (v := .int (nI i_)) (C := RX9) (T := TX9) (N := 21) hx hb hts in_X9 hown hK hP 0 rfl rfl 14 (by decide) (hts _ q1681) (fun _ h9 => h9) rfl dX9_reads_142 ?_
                      refine lv_iload hx hb dX9_reads_145 (lv_at hl 1 rfl) ?_
                      refine N_if_eq (tgt := 154) hx hb dX9_reads_147 (by decide) (by omega) (fun c_147 => ?_) (fun c_147 => ?_)
                      · skip
                        exfalso; omega
                      · skip
                        refine lv_iconst (v := nI 1) hx hb dX9_reads_150 (by decide) ?_
                        refine lv_goto (tgt := 155) hx hb dX9_reads_151 (by decide) ?_
                        refine N_iadd hx hb dX9_reads_155 ?_
                        refine va_put (D := G.1) (ci := 8) (v := .int (nI (i_ + 1))) (ty := .int) (C := RX9) (T := TX9) (N := 21) hx hb hts in_X9 tyX9 tyX9_ok nmX9 hown hK hP hD hS 0 rfl rfl 14 (by decide) (hts _ q1681) (fun _ h9 => h9) rfl (by decide +kernel) rfl rfl (Nat.le_of_ble_eq_true rfl) dX9_reads_156 (fun H locs hP hD hS => ?_)
                        have hP : va_P G.1 vwCl [oM h ad thr sts hs len (i_ + 1) ((10 * n_) + (ch i_ - 48)) many, aI G (ad 4) 60 (nF ch)] _ := hP
                        have hD : va_D A [oM h ad thr sts hs len (i_ + 1) ((10 * n_) + (ch i_ - 48)) many, aI G (ad 4) 60 (nF ch)] := hD
                        refine lv_goto (tgt := 10) hx hb dX9_reads_159 (by decide) ?_
                        have hl : lv_has ls 6 [(0, .ref h), (1, .int (nI lo)), (2, .int (nI hi_)), (3, .int (nI (d_ + 1))), (4, .int (nI 1))] := lv_sub hl [3, 4, 5, 0, 1] rfl
                        have e_10 : (nI 1) = (bI true) := by rfl
                        rw [e_10] at hl
                        have hl : lv_has ls 6 [(0, .ref h), (1, .int (nI lo)), (2, .int (nI hi_)), (3, .int (nI (d_ + 1))), (4, .int (bI true))] := hl
                        exact ih_10 (d_ + 1) ((10 * n_) + (ch i_ - 48)) (i_ + 1) true (by omega) (by omega) (by first | exact rd_ng hj1 (by omega) (by (try have := dg_f c_52); omega) | exact rd_gg hj1 (by omega) (by omega)) (by omega) (by first | (rw [if_pos rfl]; omega) | (rw [if_neg (by decide)]; omega)) _ _ _ hP hD hS hl
            · skip
              refine lv_iload hx hb dX9_reads_59 (lv_at hl 0 rfl) ?_
              refine lv_iload_n hx hb dX9_reads_61 rfl (lv_at hl 2 rfl) ?_
              refine N_icmp_ge (tgt := 80) hx hb dX9_reads_62 (by decide) (by omega) (by omega) (fun c_62 => ?_) (fun c_62 => ?_)
              · skip
                refine lv_bipush (v := nI 10) hx hb dX9_reads_80 (by decide) ?_
                refine lv_aload_n hx hb dX9_reads_82 rfl (lv_at hl 1 rfl) ?_
                refine va_get (D := G.1) (ci := 8) (v := .int (nI n_)) (C := RX9) (T := TX9) (N := 21) hx hb hts in_X9 hown hK hP 0 rfl rfl 15 (by decide) (hts _ q1682) (fun _ h9 => h9) rfl dX9_reads_83 ?_
                refine N_imul hx hb dX9_reads_86 ?_
                refine lv_iload hx hb dX9_reads_87 (lv_at hl 0 rfl) ?_
                refine N_iadd hx hb dX9_reads_89 ?_
                refine lv_iload_n hx hb dX9_reads_90 rfl (lv_at hl 3 rfl) ?_
                refine N_icmp_gt (tgt := 98) hx hb dX9_reads_91 (by decide) (by omega) (by omega) (fun c_91 => ?_) (fun c_91 => ?_)
                · skip
                  refine lv_iconst (v := nI 0) hx hb dX9_reads_98 (by decide) ?_
                  refine lv_istore (lv' := [(4, .int (nI 0)), (5, .int (nI (ch i_ - 48))), (0, .ref h), (1, .int (nI lo)), (2, .int (nI hi_)), (3, .int (nI d_))]) hx hb dX9_reads_99 hl (by decide) rfl (fun ls hl => ?_)
                  refine lv_aload_n hx hb dX9_reads_101 rfl (lv_at hl 2 rfl) ?_
                  refine lv_iload hx hb dX9_reads_102 (lv_at hl 0 rfl) ?_
                  refine N_if_eq (tgt := 120) hx hb dX9_reads_104 (by decide) (by omega) (fun c_104 => ?_) (fun c_104 => ?_)
                  · skip
                    refine lv_aload_n hx hb dX9_reads_120 rfl (lv_at hl 2 rfl) ?_
                    refine va_get (D := G.1) (ci := 8) (v := .int (nI n_)) (C := RX9) (T := TX9) (N := 21) hx hb hts in_X9 hown hK hP 0 rfl rfl 15 (by decide) (hts _ q1682) (fun _ h9 => h9) rfl dX9_reads_121 ?_
                    refine va_put (D := G.1) (ci := 8) (v := .int (nI n_)) (ty := .int) (C := RX9) (T := TX9) (N := 21) hx hb hts in_X9 tyX9 tyX9_ok nmX9 hown hK hP hD hS 0 rfl rfl 15 (by decide) (hts _ q1682) (fun _ h9 => h9) rfl (by decide +kernel) rfl rfl (Nat.le_of_ble_eq_true rfl) dX9_reads_124 (fun H locs hP hD hS => ?_)
                    have hP : va_P G.1 vwCl [oM h ad thr sts hs len i_ n_ many, aI G (ad 4) 60 (nF ch)] _ := hP
                    have hD : va_D A [oM h ad thr sts hs len i_ n_ many, aI G (ad 4) 60 (nF ch)] := hD
                    refine lv_iload_n hx hb dX9_reads_127 rfl (lv_at hl 5 rfl) ?_
                    refine lv_iload hx hb dX9_reads_128 (lv_at hl 0 rfl) ?_
                    refine N_if_eq (tgt := 137) hx hb dX9_reads_130 (by decide) (by omega) (fun c_130 => ?_) (fun c_130 => ?_)
                    · skip
                      refine lv_iconst (v := nI 0) hx hb dX9_reads_137 (by decide) ?_
                      refine N_iadd hx hb dX9_reads_138 ?_
                      refine lv_istore_n (lv' := [(3, .int (nI d_)), (4, .int (nI 0)), (5, .int (nI (ch i_ - 48))), (0, .ref h), (1, .int (nI lo)), (2, .int (nI hi_))]) hx hb dX9_reads_139 rfl hl (by decide) rfl (fun ls hl => ?_)
                      refine lv_aload_n hx hb dX9_reads_140 rfl (lv_at hl 3 rfl) ?_
                      refine lv_dup hx hb dX9_reads_141 rfl ?_
                      refine va_get (D := G.1) (ci := 8) (v := .int (nI i_)) (C := RX9) (T := TX9) (N := 21) hx hb hts in_X9 hown hK hP 0 rfl rfl 14 (by decide) (hts _ q1681) (fun _ h9 => h9) rfl dX9_reads_142 ?_
                      refine lv_iload hx hb dX9_reads_145 (lv_at hl 1 rfl) ?_
                      refine N_if_eq (tgt := 154) hx hb dX9_reads_147 (by decide) (by omega) (fun c_147 => ?_) (fun c_147 => ?_)
                      · skip
                        refine lv_iconst (v := nI 0) hx hb dX9_reads_154 (by decide) ?_
                        refine N_iadd hx hb dX9_reads_155 ?_
                        refine va_put (D := G.1) (ci := 8) (v := .int (nI i_)) (ty := .int) (C := RX9) (T := TX9) (N := 21) hx hb hts in_X9 tyX9 tyX9_ok nmX9 hown hK hP hD hS 0 rfl rfl 14 (by decide) (hts _ q1681) (fun _ h9 => h9) rfl (by decide +kernel) rfl rfl (Nat.le_of_ble_eq_true rfl) dX9_reads_156 (fun H locs hP hD hS => ?_)
                        have hP : va_P G.1 vwCl [oM h ad thr sts hs len i_ n_ many, aI G (ad 4) 60 (nF ch)] _ := hP
                        have hD : va_D A [oM h ad thr sts hs len i_ n_ many, aI G (ad 4) 60 (nF ch)] := hD
                        refine lv_goto (tgt := 10) hx hb dX9_reads_159 (by decide) ?_
                        have hl : lv_has ls 6 [(0, .ref h), (1, .int (nI lo)), (2, .int (nI hi_)), (3, .int (nI d_)), (4, .int (nI 0))] := lv_sub hl [3, 4, 5, 0, 1] rfl
                        have e_11 : (nI 0) = (bI false) := by rfl
                        rw [e_11] at hl
                        have hl : lv_has ls 6 [(0, .ref h), (1, .int (nI lo)), (2, .int (nI hi_)), (3, .int (nI d_)), (4, .int (bI false))] := hl
                        exact ih_10 d_ n_ i_ false (by omega) (by omega) (by first | exact rd_ng hj1 (by omega) (by (try have := dg_f c_52); omega) | exact rd_gg hj1 (by omega) (by omega)) (by omega) (by first | (rw [if_pos rfl]; omega) | (rw [if_neg (by decide)]; omega)) _ _ _ hP hD hS hl
                      · skip
                        exfalso; omega
                    · skip
                      exfalso; omega
                  · skip
                    exfalso; omega
                · skip
                  refine lv_iconst (v := nI 1) hx hb dX9_reads_94 (by decide) ?_
                  refine lv_goto (tgt := 99) hx hb dX9_reads_95 (by decide) ?_
                  refine lv_istore (lv' := [(4, .int (nI 1)), (5, .int (nI (ch i_ - 48))), (0, .ref h), (1, .int (nI lo)), (2, .int (nI hi_)), (3, .int (nI d_))]) hx hb dX9_reads_99 hl (by decide) rfl (fun ls hl => ?_)
                  refine lv_aload_n hx hb dX9_reads_101 rfl (lv_at hl 2 rfl) ?_
                  refine lv_iload hx hb dX9_reads_102 (lv_at hl 0 rfl) ?_
                  refine N_if_eq (tgt := 120) hx hb dX9_reads_104 (by decide) (by omega) (fun c_104 => ?_) (fun c_104 => ?_)
                  · skip
                    exfalso; omega
                  · skip
                    refine lv_bipush (v := nI 10) hx hb dX9_reads_107 (by decide) ?_
                    refine lv_aload_n hx hb dX9_reads_109 rfl (lv_at hl 2 rfl) ?_
                    refine va_get (D := G.1) (ci := 8) (v := .int (nI n_)) (C := RX9) (T := TX9) (N := 21) hx hb hts in_X9 hown hK hP 0 rfl rfl 15 (by decide) (hts _ q1682) (fun _ h9 => h9) rfl dX9_reads_110 ?_
                    refine N_imul hx hb dX9_reads_113 ?_
                    refine lv_iload hx hb dX9_reads_114 (lv_at hl 1 rfl) ?_
                    refine N_iadd hx hb dX9_reads_116 ?_
                    refine lv_goto (tgt := 124) hx hb dX9_reads_117 (by decide) ?_
                    refine va_put (D := G.1) (ci := 8) (v := .int (nI ((10 * n_) + (ch i_ - 48)))) (ty := .int) (C := RX9) (T := TX9) (N := 21) hx hb hts in_X9 tyX9 tyX9_ok nmX9 hown hK hP hD hS 0 rfl rfl 15 (by decide) (hts _ q1682) (fun _ h9 => h9) rfl (by decide +kernel) rfl rfl (Nat.le_of_ble_eq_true rfl) dX9_reads_124 (fun H locs hP hD hS => ?_)
                    have hP : va_P G.1 vwCl [oM h ad thr sts hs len i_ ((10 * n_) + (ch i_ - 48)) many, aI G (ad 4) 60 (nF ch)] _ := hP
                    have hD : va_D A [oM h ad thr sts hs len i_ ((10 * n_) + (ch i_ - 48)) many, aI G (ad 4) 60 (nF ch)] := hD
                    refine lv_iload_n hx hb dX9_reads_127 rfl (lv_at hl 5 rfl) ?_
                    refine lv_iload hx hb dX9_reads_128 (lv_at hl 0 rfl) ?_
                    refine N_if_eq (tgt := 137) hx hb dX9_reads_130 (by decide) (by omega) (fun c_130 => ?_) (fun c_130 => ?_)
                    · skip
                      exfalso; omega
                    · skip
                      refine lv_iconst (v := nI 1) hx hb dX9_reads_133 (by decide) ?_
                      refine lv_goto (tgt := 138) hx hb dX9_reads_134 (by decide) ?_
                      refine N_iadd hx hb dX9_reads_138 ?_
                      refine lv_istore_n (lv' := [(3, .int (nI (d_ + 1))), (4, .int (nI 1)), (5, .int (nI (ch i_ - 48))), (0, .ref h), (1, .int (nI lo)), (2, .int (nI hi_))]) hx hb dX9_reads_139 rfl hl (by decide) rfl (fun ls hl => ?_)
                      refine lv_aload_n hx hb dX9_reads_140 rfl (lv_at hl 3 rfl) ?_
                      refine lv_dup hx hb dX9_reads_141 rfl ?_
                      refine va_get (D := G.1) (ci := 8) (v := .int (nI i_)) (C := RX9) (T := TX9) (N := 21) hx hb hts in_X9 hown hK hP 0 rfl rfl 14 (by decide) (hts _ q1681) (fun _ h9 => h9) rfl dX9_reads_142 ?_
                      refine lv_iload hx hb dX9_reads_145 (lv_at hl 1 rfl) ?_
                      refine N_if_eq (tgt := 154) hx hb dX9_reads_147 (by decide) (by omega) (fun c_147 => ?_) (fun c_147 => ?_)
                      · skip
                        exfalso; omega
                      · skip
                        refine lv_iconst (v := nI 1) hx hb dX9_reads_150 (by decide) ?_
                        refine lv_goto (tgt := 155) hx hb dX9_reads_151 (by decide) ?_
                        refine N_iadd hx hb dX9_reads_155 ?_
                        refine va_put (D := G.1) (ci := 8) (v := .int (nI (i_ + 1))) (ty := .int) (C := RX9) (T := TX9) (N := 21) hx hb hts in_X9 tyX9 tyX9_ok nmX9 hown hK hP hD hS 0 rfl rfl 14 (by decide) (hts _ q1681) (fun _ h9 => h9) rfl (by decide +kernel) rfl rfl (Nat.le_of_ble_eq_true rfl) dX9_reads_156 (fun H locs hP hD hS => ?_)
                        have hP : va_P G.1 vwCl [oM h ad thr sts hs len (i_ + 1) ((10 * n_) + (ch i_ - 48)) many, aI G (ad 4) 60 (nF ch)] _ := hP
                        have hD : va_D A [oM h ad thr sts hs len (i_ + 1) ((10 * n_) + (ch i_ - 48)) many, aI G (ad 4) 60 (nF ch)] := hD
                        refine lv_goto (tgt := 10) hx hb dX9_reads_159 (by decide) ?_
                        have hl : lv_has ls 6 [(0, .ref h), (1, .int (nI lo)), (2, .int (nI hi_)), (3, .int (nI (d_ + 1))), (4, .int (nI 1))] := lv_sub hl [3, 4, 5, 0, 1] rfl
                        have e_12 : (nI 1) = (bI true) := by rfl
                        rw [e_12] at hl
                        have hl : lv_has ls 6 [(0, .ref h), (1, .int (nI lo)), (2, .int (nI hi_)), (3, .int (nI (d_ + 1))), (4, .int (bI true))] := hl
                        exact ih_10 (d_ + 1) ((10 * n_) + (ch i_ - 48)) (i_ + 1) true (by omega) (by omega) (by first | exact rd_ng hj1 (by omega) (by (try have := dg_f c_52); omega) | exact rd_gg hj1 (by omega) (by omega)) (by omega) (by first | (rw [if_pos rfl]; omega) | (rw [if_neg (by decide)]; omega)) _ _ _ hP hD hS hl
              · skip
                refine lv_iload hx hb dX9_reads_65 (lv_at hl 0 rfl) ?_
                refine N_if_le (tgt := 98) hx hb dX9_reads_67 (by decide) (by omega) (fun c_67 => ?_) (fun c_67 => ?_)
                · skip
                  refine lv_iconst (v := nI 0) hx hb dX9_reads_98 (by decide) ?_
                  refine lv_istore (lv' := [(4, .int (nI 0)), (5, .int (nI (ch i_ - 48))), (0, .ref h), (1, .int (nI lo)), (2, .int (nI hi_)), (3, .int (nI d_))]) hx hb dX9_reads_99 hl (by decide) rfl (fun ls hl => ?_)
                  refine lv_aload_n hx hb dX9_reads_101 rfl (lv_at hl 2 rfl) ?_
                  refine lv_iload hx hb dX9_reads_102 (lv_at hl 0 rfl) ?_
                  refine N_if_eq (tgt := 120) hx hb dX9_reads_104 (by decide) (by omega) (fun c_104 => ?_) (fun c_104 => ?_)
                  · skip
                    refine lv_aload_n hx hb dX9_reads_120 rfl (lv_at hl 2 rfl) ?_
                    refine va_get (D := G.1) (ci := 8) (v := .int (nI n_)) (C := RX9) (T := TX9) (N := 21) hx hb hts in_X9 hown hK hP 0 rfl rfl 15 (by decide) (hts _ q1682) (fun _ h9 => h9) rfl dX9_reads_121 ?_
                    refine va_put (D := G.1) (ci := 8) (v := .int (nI n_)) (ty := .int) (C := RX9) (T := TX9) (N := 21) hx hb hts in_X9 tyX9 tyX9_ok nmX9 hown hK hP hD hS 0 rfl rfl 15 (by decide) (hts _ q1682) (fun _ h9 => h9) rfl (by decide +kernel) rfl rfl (Nat.le_of_ble_eq_true rfl) dX9_reads_124 (fun H locs hP hD hS => ?_)
                    have hP : va_P G.1 vwCl [oM h ad thr sts hs len i_ n_ many, aI G (ad 4) 60 (nF ch)] _ := hP
                    have hD : va_D A [oM h ad thr sts hs len i_ n_ many, aI G (ad 4) 60 (nF ch)] := hD
                    refine lv_iload_n hx hb dX9_reads_127 rfl (lv_at hl 5 rfl) ?_
                    refine lv_iload hx hb dX9_reads_128 (lv_at hl 0 rfl) ?_
                    refine N_if_eq (tgt := 137) hx hb dX9_reads_130 (by decide) (by omega) (fun c_130 => ?_) (fun c_130 => ?_)
                    · skip
                      refine lv_iconst (v := nI 0) hx hb dX9_reads_137 (by decide) ?_
                      refine N_iadd hx hb dX9_reads_138 ?_
                      refine lv_istore_n (lv' := [(3, .int (nI d_)), (4, .int (nI 0)), (5, .int (nI (ch i_ - 48))), (0, .ref h), (1, .int (nI lo)), (2, .int (nI hi_))]) hx hb dX9_reads_139 rfl hl (by decide) rfl (fun ls hl => ?_)
                      refine lv_aload_n hx hb dX9_reads_140 rfl (lv_at hl 3 rfl) ?_
                      refine lv_dup hx hb dX9_reads_141 rfl ?_
                      refine va_get (D := G.1) (ci := 8) (v := .int (nI i_)) (C := RX9) (T := TX9) (N := 21) hx hb hts in_X9 hown hK hP 0 rfl rfl 14 (by decide) (hts _ q1681) (fun _ h9 => h9) rfl dX9_reads_142 ?_
                      refine lv_iload hx hb dX9_reads_145 (lv_at hl 1 rfl) ?_
                      refine N_if_eq (tgt := 154) hx hb dX9_reads_147 (by decide) (by omega) (fun c_147 => ?_) (fun c_147 => ?_)
                      · skip
                        refine lv_iconst (v := nI 0) hx hb dX9_reads_154 (by decide) ?_
                        refine N_iadd hx hb dX9_reads_155 ?_
                        refine va_put (D := G.1) (ci := 8) (v := .int (nI i_)) (ty := .int) (C := RX9) (T := TX9) (N := 21) hx hb hts in_X9 tyX9 tyX9_ok nmX9 hown hK hP hD hS 0 rfl rfl 14 (by decide) (hts _ q1681) (fun _ h9 => h9) rfl (by decide +kernel) rfl rfl (Nat.le_of_ble_eq_true rfl) dX9_reads_156 (fun H locs hP hD hS => ?_)
                        have hP : va_P G.1 vwCl [oM h ad thr sts hs len i_ n_ many, aI G (ad 4) 60 (nF ch)] _ := hP
                        have hD : va_D A [oM h ad thr sts hs len i_ n_ many, aI G (ad 4) 60 (nF ch)] := hD
                        refine lv_goto (tgt := 10) hx hb dX9_reads_159 (by decide) ?_
                        have hl : lv_has ls 6 [(0, .ref h), (1, .int (nI lo)), (2, .int (nI hi_)), (3, .int (nI d_)), (4, .int (nI 0))] := lv_sub hl [3, 4, 5, 0, 1] rfl
                        have e_13 : (nI 0) = (bI false) := by rfl
                        rw [e_13] at hl
                        have hl : lv_has ls 6 [(0, .ref h), (1, .int (nI lo)), (2, .int (nI hi_)), (3, .int (nI d_)), (4, .int (bI false))] := hl
                        exact ih_10 d_ n_ i_ false (by omega) (by omega) (by first | exact rd_ng hj1 (by omega) (by (try have := dg_f c_52); omega) | exact rd_gg hj1 (by omega) (by omega)) (by omega) (by first | (rw [if_pos rfl]; omega) | (rw [if_neg (by decide)]; omega)) _ _ _ hP hD hS hl
                      · skip
                        exfalso; omega
                    · skip
                      exfalso; omega
                  · skip
                    exfalso; omega
                · skip
                  refine lv_goto (tgt := 80) hx hb dX9_reads_70 (by decide) ?_
                  refine lv_bipush (v := nI 10) hx hb dX9_reads_80 (by decide) ?_
                  refine lv_aload_n hx hb dX9_reads_82 rfl (lv_at hl 1 rfl) ?_
                  refine va_get (D := G.1) (ci := 8) (v := .int (nI n_)) (C := RX9) (T := TX9) (N := 21) hx hb hts in_X9 hown hK hP 0 rfl rfl 15 (by decide) (hts _ q1682) (fun _ h9 => h9) rfl dX9_reads_83 ?_
                  refine N_imul hx hb dX9_reads_86 ?_
                  refine lv_iload hx hb dX9_reads_87 (lv_at hl 0 rfl) ?_
                  refine N_iadd hx hb dX9_reads_89 ?_
                  refine lv_iload_n hx hb dX9_reads_90 rfl (lv_at hl 3 rfl) ?_
                  refine N_icmp_gt (tgt := 98) hx hb dX9_reads_91 (by decide) (by omega) (by omega) (fun c_91 => ?_) (fun c_91 => ?_)
                  · skip
                    refine lv_iconst (v := nI 0) hx hb dX9_reads_98 (by decide) ?_
                    refine lv_istore (lv' := [(4, .int (nI 0)), (5, .int (nI (ch i_ - 48))), (0, .ref h), (1, .int (nI lo)), (2, .int (nI hi_)), (3, .int (nI d_))]) hx hb dX9_reads_99 hl (by decide) rfl (fun ls hl => ?_)
                    refine lv_aload_n hx hb dX9_reads_101 rfl (lv_at hl 2 rfl) ?_
                    refine lv_iload hx hb dX9_reads_102 (lv_at hl 0 rfl) ?_
                    refine N_if_eq (tgt := 120) hx hb dX9_reads_104 (by decide) (by omega) (fun c_104 => ?_) (fun c_104 => ?_)
                    · skip
                      refine lv_aload_n hx hb dX9_reads_120 rfl (lv_at hl 2 rfl) ?_
                      refine va_get (D := G.1) (ci := 8) (v := .int (nI n_)) (C := RX9) (T := TX9) (N := 21) hx hb hts in_X9 hown hK hP 0 rfl rfl 15 (by decide) (hts _ q1682) (fun _ h9 => h9) rfl dX9_reads_121 ?_
                      refine va_put (D := G.1) (ci := 8) (v := .int (nI n_)) (ty := .int) (C := RX9) (T := TX9) (N := 21) hx hb hts in_X9 tyX9 tyX9_ok nmX9 hown hK hP hD hS 0 rfl rfl 15 (by decide) (hts _ q1682) (fun _ h9 => h9) rfl (by decide +kernel) rfl rfl (Nat.le_of_ble_eq_true rfl) dX9_reads_124 (fun H locs hP hD hS => ?_)
                      have hP : va_P G.1 vwCl [oM h ad thr sts hs len i_ n_ many, aI G (ad 4) 60 (nF ch)] _ := hP
                      have hD : va_D A [oM h ad thr sts hs len i_ n_ many, aI G (ad 4) 60 (nF ch)] := hD
                      refine lv_iload_n hx hb dX9_reads_127 rfl (lv_at hl 5 rfl) ?_
                      refine lv_iload hx hb dX9_reads_128 (lv_at hl 0 rfl) ?_
                      refine N_if_eq (tgt := 137) hx hb dX9_reads_130 (by decide) (by omega) (fun c_130 => ?_) (fun c_130 => ?_)
                      · skip
                        refine lv_iconst (v := nI 0) hx hb dX9_reads_137 (by decide) ?_
                        refine N_iadd hx hb dX9_reads_138 ?_
                        refine lv_istore_n (lv' := [(3, .int (nI d_)), (4, .int (nI 0)), (5, .int (nI (ch i_ - 48))), (0, .ref h), (1, .int (nI lo)), (2, .int (nI hi_))]) hx hb dX9_reads_139 rfl hl (by decide) rfl (fun ls hl => ?_)
                        refine lv_aload_n hx hb dX9_reads_140 rfl (lv_at hl 3 rfl) ?_
                        refine lv_dup hx hb dX9_reads_141 rfl ?_
                        refine va_get (D := G.1) (ci := 8) (v := .int (nI i_)) (C := RX9) (T := TX9) (N := 21) hx hb hts in_X9 hown hK hP 0 rfl rfl 14 (by decide) (hts _ q1681) (fun _ h9 => h9) rfl dX9_reads_142 ?_
                        refine lv_iload hx hb dX9_reads_145 (lv_at hl 1 rfl) ?_
                        refine N_if_eq (tgt := 154) hx hb dX9_reads_147 (by decide) (by omega) (fun c_147 => ?_) (fun c_147 => ?_)
                        · skip
                          refine lv_iconst (v := nI 0) hx hb dX9_reads_154 (by decide) ?_
                          refine N_iadd hx hb dX9_reads_155 ?_
                          refine va_put (D := G.1) (ci := 8) (v := .int (nI i_)) (ty := .int) (C := RX9) (T := TX9) (N := 21) hx hb hts in_X9 tyX9 tyX9_ok nmX9 hown hK hP hD hS 0 rfl rfl 14 (by decide) (hts _ q1681) (fun _ h9 => h9) rfl (by decide +kernel) rfl rfl (Nat.le_of_ble_eq_true rfl) dX9_reads_156 (fun H locs hP hD hS => ?_)
                          have hP : va_P G.1 vwCl [oM h ad thr sts hs len i_ n_ many, aI G (ad 4) 60 (nF ch)] _ := hP
                          have hD : va_D A [oM h ad thr sts hs len i_ n_ many, aI G (ad 4) 60 (nF ch)] := hD
                          refine lv_goto (tgt := 10) hx hb dX9_reads_159 (by decide) ?_
                          have hl : lv_has ls 6 [(0, .ref h), (1, .int (nI lo)), (2, .int (nI hi_)), (3, .int (nI d_)), (4, .int (nI 0))] := lv_sub hl [3, 4, 5, 0, 1] rfl
                          have e_14 : (nI 0) = (bI false) := by rfl
                          rw [e_14] at hl
                          have hl : lv_has ls 6 [(0, .ref h), (1, .int (nI lo)), (2, .int (nI hi_)), (3, .int (nI d_)), (4, .int (bI false))] := hl
                          exact ih_10 d_ n_ i_ false (by omega) (by omega) (by first | exact rd_ng hj1 (by omega) (by (try have := dg_f c_52); omega) | exact rd_gg hj1 (by omega) (by omega)) (by omega) (by first | (rw [if_pos rfl]; omega) | (rw [if_neg (by decide)]; omega)) _ _ _ hP hD hS hl
                        · skip
                          exfalso; omega
                      · skip
                        exfalso; omega
                    · skip
                      exfalso; omega
                  · skip
                    refine lv_iconst (v := nI 1) hx hb dX9_reads_94 (by decide) ?_
                    refine lv_goto (tgt := 99) hx hb dX9_reads_95 (by decide) ?_
                    refine lv_istore (lv' := [(4, .int (nI 1)), (5, .int (nI (ch i_ - 48))), (0, .ref h), (1, .int (nI lo)), (2, .int (nI hi_)), (3, .int (nI d_))]) hx hb dX9_reads_99 hl (by decide) rfl (fun ls hl => ?_)
                    refine lv_aload_n hx hb dX9_reads_101 rfl (lv_at hl 2 rfl) ?_
                    refine lv_iload hx hb dX9_reads_102 (lv_at hl 0 rfl) ?_
                    refine N_if_eq (tgt := 120) hx hb dX9_reads_104 (by decide) (by omega) (fun c_104 => ?_) (fun c_104 => ?_)
                    · skip
                      exfalso; omega
                    · skip
                      refine lv_bipush (v := nI 10) hx hb dX9_reads_107 (by decide) ?_
                      refine lv_aload_n hx hb dX9_reads_109 rfl (lv_at hl 2 rfl) ?_
                      refine va_get (D := G.1) (ci := 8) (v := .int (nI n_)) (C := RX9) (T := TX9) (N := 21) hx hb hts in_X9 hown hK hP 0 rfl rfl 15 (by decide) (hts _ q1682) (fun _ h9 => h9) rfl dX9_reads_110 ?_
                      refine N_imul hx hb dX9_reads_113 ?_
                      refine lv_iload hx hb dX9_reads_114 (lv_at hl 1 rfl) ?_
                      refine N_iadd hx hb dX9_reads_116 ?_
                      refine lv_goto (tgt := 124) hx hb dX9_reads_117 (by decide) ?_
                      refine va_put (D := G.1) (ci := 8) (v := .int (nI ((10 * n_) + (ch i_ - 48)))) (ty := .int) (C := RX9) (T := TX9) (N := 21) hx hb hts in_X9 tyX9 tyX9_ok nmX9 hown hK hP hD hS 0 rfl rfl 15 (by decide) (hts _ q1682) (fun _ h9 => h9) rfl (by decide +kernel) rfl rfl (Nat.le_of_ble_eq_true rfl) dX9_reads_124 (fun H locs hP hD hS => ?_)
                      have hP : va_P G.1 vwCl [oM h ad thr sts hs len i_ ((10 * n_) + (ch i_ - 48)) many, aI G (ad 4) 60 (nF ch)] _ := hP
                      have hD : va_D A [oM h ad thr sts hs len i_ ((10 * n_) + (ch i_ - 48)) many, aI G (ad 4) 60 (nF ch)] := hD
                      refine lv_iload_n hx hb dX9_reads_127 rfl (lv_at hl 5 rfl) ?_
                      refine lv_iload hx hb dX9_reads_128 (lv_at hl 0 rfl) ?_
                      refine N_if_eq (tgt := 137) hx hb dX9_reads_130 (by decide) (by omega) (fun c_130 => ?_) (fun c_130 => ?_)
                      · skip
                        exfalso; omega
                      · skip
                        refine lv_iconst (v := nI 1) hx hb dX9_reads_133 (by decide) ?_
                        refine lv_goto (tgt := 138) hx hb dX9_reads_134 (by decide) ?_
                        refine N_iadd hx hb dX9_reads_138 ?_
                        refine lv_istore_n (lv' := [(3, .int (nI (d_ + 1))), (4, .int (nI 1)), (5, .int (nI (ch i_ - 48))), (0, .ref h), (1, .int (nI lo)), (2, .int (nI hi_))]) hx hb dX9_reads_139 rfl hl (by decide) rfl (fun ls hl => ?_)
                        refine lv_aload_n hx hb dX9_reads_140 rfl (lv_at hl 3 rfl) ?_
                        refine lv_dup hx hb dX9_reads_141 rfl ?_
                        refine va_get (D := G.1) (ci := 8) (v := .int (nI i_)) (C := RX9) (T := TX9) (N := 21) hx hb hts in_X9 hown hK hP 0 rfl rfl 14 (by decide) (hts _ q1681) (fun _ h9 => h9) rfl dX9_reads_142 ?_
                        refine lv_iload hx hb dX9_reads_145 (lv_at hl 1 rfl) ?_
                        refine N_if_eq (tgt := 154) hx hb dX9_reads_147 (by decide) (by omega) (fun c_147 => ?_) (fun c_147 => ?_)
                        · skip
                          exfalso; omega
                        · skip
                          refine lv_iconst (v := nI 1) hx hb dX9_reads_150 (by decide) ?_
                          refine lv_goto (tgt := 155) hx hb dX9_reads_151 (by decide) ?_
                          refine N_iadd hx hb dX9_reads_155 ?_
                          refine va_put (D := G.1) (ci := 8) (v := .int (nI (i_ + 1))) (ty := .int) (C := RX9) (T := TX9) (N := 21) hx hb hts in_X9 tyX9 tyX9_ok nmX9 hown hK hP hD hS 0 rfl rfl 14 (by decide) (hts _ q1681) (fun _ h9 => h9) rfl (by decide +kernel) rfl rfl (Nat.le_of_ble_eq_true rfl) dX9_reads_156 (fun H locs hP hD hS => ?_)
                          have hP : va_P G.1 vwCl [oM h ad thr sts hs len (i_ + 1) ((10 * n_) + (ch i_ - 48)) many, aI G (ad 4) 60 (nF ch)] _ := hP
                          have hD : va_D A [oM h ad thr sts hs len (i_ + 1) ((10 * n_) + (ch i_ - 48)) many, aI G (ad 4) 60 (nF ch)] := hD
                          refine lv_goto (tgt := 10) hx hb dX9_reads_159 (by decide) ?_
                          have hl : lv_has ls 6 [(0, .ref h), (1, .int (nI lo)), (2, .int (nI hi_)), (3, .int (nI (d_ + 1))), (4, .int (nI 1))] := lv_sub hl [3, 4, 5, 0, 1] rfl
                          have e_15 : (nI 1) = (bI true) := by rfl
                          rw [e_15] at hl
                          have hl : lv_has ls 6 [(0, .ref h), (1, .int (nI lo)), (2, .int (nI hi_)), (3, .int (nI (d_ + 1))), (4, .int (bI true))] := hl
                          exact ih_10 (d_ + 1) ((10 * n_) + (ch i_ - 48)) (i_ + 1) true (by omega) (by omega) (by first | exact rd_ng hj1 (by omega) (by (try have := dg_f c_52); omega) | exact rd_gg hj1 (by omega) (by omega)) (by omega) (by first | (rw [if_pos rfl]; omega) | (rw [if_neg (by decide)]; omega)) _ _ _ hP hD hS hl
        refine N_icmp_ge (tgt := 41) hx hb dX9_reads_23 (by decide) (by omega) (by omega) (fun c_23 => ?_) (fun c_23 => ?_)
        · skip
          refine lv_iconst (v := (-1)) hx hb dX9_reads_41 (by decide) ?_
          exact K_23 ((-1)) (by first | rfl | (try rw [if_neg (Nat.not_lt.mpr c_23)]) | simp_all) _ _ _ hP hD hS (lv_sub hl [0, 1, 2, 3, 4] rfl)
        · skip
          refine lv_aload_n hx hb dX9_reads_26 rfl (lv_at hl 0 rfl) ?_
          refine va_get (D := G.1) (ci := 8) (v := .ref (ad 4)) (C := RX9) (T := TX9) (N := 21) hx hb hts in_X9 hown hK hP 0 rfl rfl 6 (by decide) (hts _ q1673) (fun _ h9 => h9) rfl dX9_reads_27 ?_
          refine lv_aload_n hx hb dX9_reads_30 rfl (lv_at hl 0 rfl) ?_
          refine va_get (D := G.1) (ci := 8) (v := .int (nI i_)) (C := RX9) (T := TX9) (N := 21) hx hb hts in_X9 hown hK hP 0 rfl rfl 14 (by decide) (hts _ q1681) (fun _ h9 => h9) rfl dX9_reads_31 ?_
          refine N_iald hx hb dX9_reads_34 hK hP 1 0 rfl rfl (by omega) (by omega) ?_
          refine top_i (y := nI (ch i_)) rfl ?_
          refine lv_bipush (v := nI 48) hx hb dX9_reads_35 (by decide) ?_
          refine lv_isub hx hb dX9_reads_37 ?_
          refine lv_goto (tgt := 42) hx hb dX9_reads_38 (by decide) ?_
          exact K_23 ((nI (ch i_)) - (nI 48)) (by first | rfl | (try rw [if_pos c_23]) | simp_all) _ _ _ hP hD hS (lv_sub hl [0, 1, 2, 3, 4] rfl)
  have hl : lv_has ls 6 [(0, .ref h), (1, .int (nI lo)), (2, .int (nI hi_)), (3, .int (nI 0)), (4, .int (nI 1))] := lv_sub hl [2, 3, 4, 1, 0] rfl
  have e_16 : (nI 1) = (bI true) := by rfl
  rw [e_16] at hl
  have hl : lv_has ls 6 [(0, .ref h), (1, .int (nI lo)), (2, .int (nI hi_)), (3, .int (nI 0)), (4, .int (bI true))] := hl
  exact lp_10 _ 0 0 at_ true (by omega) (by omega) (by exact Or.inl ⟨rfl, rfl⟩) (by omega) (Nat.lt_succ_self _) _ _ _ hP hD hS hl
def rm_X9_sign : Room := ({ frames := 0, cells := 0, slots := 0, locals := 0 } : Room)
set_option maxHeartbeats 400000 in
set_option maxRecDepth 100000 in
theorem t_X9_sign (l : Launch) (G : GG) (b0 sz : Nat) (h : Nat) (ad : Nat → Nat) (thr sts : Nat) (hs : Bool) (len at_ num many : Nat) (ch : Nat → Nat) (sg : Nat) (hat : at_ ≤ len) (hle : len ≤ 60) (hch : ∀ j, j < len → ch j < 1000) (hsg : sg < 1000) : CT l yX9_sign cX9_sign 2 (some FieldType.boolean) (rm_X9_sign) G b0 [.ref h, .int (nI sg)] [oM h ad thr sts hs len at_ num many, aI G (ad 4) 60 (nF ch)] sz (Ri G (fun (r_ : Int32) (_ : Unit) => r_ = bI (sgB ch len at_ sg)) (fun (_ : Unit) => [oM h ad thr sts hs len (sgA ch len at_ sg) num many, aI G (ad 4) 60 (nF ch)])) := by
  refine CT.go (by decide) (Nat.le_of_ble_eq_true rfl) (fun p e s m below meth c A ls AR QQ hx hb hr hlk hml hown hnm hts hE hA hAb hsz hP hD hS hl hQQ => ?_)
  have hK := hE.1
  have hown : s.vm.findClass RX9 = some m.cls := hown
  have hl : lv_has ls 2 [(0, .ref h), (1, .int (nI sg))] := hl
  clear hsz
  have hc9 : at_ < len → ch at_ < 1000 := hch at_
  refine lv_aload_n hx hb dX9_sign_0 rfl (lv_at hl 0 rfl) ?_
  refine va_get (D := G.1) (ci := 8) (v := .int (nI at_)) (C := RX9) (T := TX9) (N := 21) hx hb hts in_X9 hown hK hP 0 rfl rfl 14 (by decide) (hts _ q1681) (fun _ h9 => h9) rfl dX9_sign_1 ?_
  refine lv_aload_n hx hb dX9_sign_4 rfl (lv_at hl 0 rfl) ?_
  refine va_get (D := G.1) (ci := 8) (v := .int (nI len)) (C := RX9) (T := TX9) (N := 21) hx hb hts in_X9 hown hK hP 0 rfl rfl 7 (by decide) (hts _ q1674) (fun _ h9 => h9) rfl dX9_sign_5 ?_
  refine N_icmp_eq (tgt := 24) hx hb dX9_sign_8 (by decide) (by omega) (by omega) (fun c_8 => ?_) (fun c_8 => ?_)
  · skip
    refine lv_iconst (v := nI 0) hx hb dX9_sign_24 (by decide) ?_
    have e_1 : (at_) = (sgA ch len at_ sg) := by first | rfl | (unfold sgA; first | done | skip; try rw [if_pos c_8]; first | done | rfl)
    rw [e_1] at hP hD
    have hP : va_P G.1 vwCl [oM h ad thr sts hs len (sgA ch len at_ sg) num many, aI G (ad 4) 60 (nF ch)] _ := hP
    have hD : va_D A [oM h ad thr sts hs len (sgA ch len at_ sg) num many, aI G (ad 4) 60 (nF ch)] := hD
    rw [hQQ]
    exact rt_z hx hb hr hlk (by first | exact bI_nar _ | rfl) (()) dX9_sign_25 hP hD hS (by first | exact Nat.le_of_ble_eq_true rfl | (simp only [rm_X9_sign]; omega)) (by first | exact Nat.le_of_ble_eq_true rfl | (simp only [rm_X9_sign]; omega)) (by first | exact bI_of1 (by unfold sgB; (try rw [if_neg c_8]); (try rw [if_pos c_21])) | exact bI_of0 (by unfold sgB; first | (rw [if_pos c_8]; done) | (rw [if_neg c_8, if_neg c_21]; done)))
  · skip
    refine lv_aload_n hx hb dX9_sign_11 rfl (lv_at hl 0 rfl) ?_
    refine va_get (D := G.1) (ci := 8) (v := .ref (ad 4)) (C := RX9) (T := TX9) (N := 21) hx hb hts in_X9 hown hK hP 0 rfl rfl 6 (by decide) (hts _ q1673) (fun _ h9 => h9) rfl dX9_sign_12 ?_
    refine lv_aload_n hx hb dX9_sign_15 rfl (lv_at hl 0 rfl) ?_
    refine va_get (D := G.1) (ci := 8) (v := .int (nI at_)) (C := RX9) (T := TX9) (N := 21) hx hb hts in_X9 hown hK hP 0 rfl rfl 14 (by decide) (hts _ q1681) (fun _ h9 => h9) rfl dX9_sign_16 ?_
    refine N_iald hx hb dX9_sign_19 hK hP 1 0 rfl rfl (by omega) (by omega) ?_
    refine top_i (y := nI (ch at_)) rfl ?_
    refine lv_iload_n hx hb dX9_sign_20 rfl (lv_at hl 1 rfl) ?_
    refine N_icmp_eq (tgt := 26) hx hb dX9_sign_21 (by decide) (by omega) (by omega) (fun c_21 => ?_) (fun c_21 => ?_)
    · skip
      refine lv_aload_n hx hb dX9_sign_26 rfl (lv_at hl 0 rfl) ?_
      refine lv_dup hx hb dX9_sign_27 rfl ?_
      refine va_get (D := G.1) (ci := 8) (v := .int (nI at_)) (C := RX9) (T := TX9) (N := 21) hx hb hts in_X9 hown hK hP 0 rfl rfl 14 (by decide) (hts _ q1681) (fun _ h9 => h9) rfl dX9_sign_28 ?_
      refine lv_iconst (v := nI 1) hx hb dX9_sign_31 (by decide) ?_
      refine N_iadd hx hb dX9_sign_32 ?_
      refine va_put (D := G.1) (ci := 8) (v := .int (nI (at_ + 1))) (ty := .int) (C := RX9) (T := TX9) (N := 21) hx hb hts in_X9 tyX9 tyX9_ok nmX9 hown hK hP hD hS 0 rfl rfl 14 (by decide) (hts _ q1681) (fun _ h9 => h9) rfl (by decide +kernel) rfl rfl (Nat.le_of_ble_eq_true rfl) dX9_sign_33 (fun H locs hP hD hS => ?_)
      have hP : va_P G.1 vwCl [oM h ad thr sts hs len (at_ + 1) num many, aI G (ad 4) 60 (nF ch)] _ := hP
      have hD : va_D A [oM h ad thr sts hs len (at_ + 1) num many, aI G (ad 4) 60 (nF ch)] := hD
      refine lv_iconst (v := nI 1) hx hb dX9_sign_36 (by decide) ?_
      have e_2 : (at_ + 1) = (sgA ch len at_ sg) := by first | rfl | (unfold sgA; first | done | skip; try rw [if_neg c_8]; try rw [if_pos c_21]; first | done | rfl)
      rw [e_2] at hP hD
      have hP : va_P G.1 vwCl [oM h ad thr sts hs len (sgA ch len at_ sg) num many, aI G (ad 4) 60 (nF ch)] _ := hP
      have hD : va_D A [oM h ad thr sts hs len (sgA ch len at_ sg) num many, aI G (ad 4) 60 (nF ch)] := hD
      rw [hQQ]
      exact rt_z hx hb hr hlk (by first | exact bI_nar _ | rfl) (()) dX9_sign_37 hP hD hS (by first | exact Nat.le_of_ble_eq_true rfl | (simp only [rm_X9_sign]; omega)) (by first | exact Nat.le_of_ble_eq_true rfl | (simp only [rm_X9_sign]; omega)) (by first | exact bI_of1 (by unfold sgB; (try rw [if_neg c_8]); (try rw [if_pos c_21])) | exact bI_of0 (by unfold sgB; first | (rw [if_pos c_8]; done) | (rw [if_neg c_8, if_neg c_21]; done)))
    · skip
      refine lv_iconst (v := nI 0) hx hb dX9_sign_24 (by decide) ?_
      have e_3 : (at_) = (sgA ch len at_ sg) := by first | rfl | (unfold sgA; first | done | skip; try rw [if_neg c_8]; try rw [if_neg c_21]; first | done | rfl)
      rw [e_3] at hP hD
      have hP : va_P G.1 vwCl [oM h ad thr sts hs len (sgA ch len at_ sg) num many, aI G (ad 4) 60 (nF ch)] _ := hP
      have hD : va_D A [oM h ad thr sts hs len (sgA ch len at_ sg) num many, aI G (ad 4) 60 (nF ch)] := hD
      rw [hQQ]
      exact rt_z hx hb hr hlk (by first | exact bI_nar _ | rfl) (()) dX9_sign_25 hP hD hS (by first | exact Nat.le_of_ble_eq_true rfl | (simp only [rm_X9_sign]; omega)) (by first | exact Nat.le_of_ble_eq_true rfl | (simp only [rm_X9_sign]; omega)) (by first | exact bI_of1 (by unfold sgB; (try rw [if_neg c_8]); (try rw [if_pos c_21])) | exact bI_of0 (by unfold sgB; first | (rw [if_pos c_8]; done) | (rw [if_neg c_8, if_neg c_21]; done)))
def rm_X9_cell : Room := ({ frames := 2, cells := 0, slots := 0, locals := 47 } : Room)
set_option maxHeartbeats 400000 in
set_option maxRecDepth 100000 in
theorem t_X9_cell (l : Launch) (G : GG) (b0 sz : Nat) (h : Nat) (ad : Nat → Nat) (thr sts : Nat) (hs : Bool) (len at_ num many : Nat) (ch fi se : Nat → Nat) (hat : at_ ≤ len) (hle : len ≤ 60) (hch : ∀ j, j < len → ch j < 1000) (hmy : many ≤ 30) : CT l yX9_cell cX9_cell 1 (some FieldType.boolean) (rm_X9_cell) G b0 [.ref h] [oM h ad thr sts hs len at_ num many, aI G (ad 4) 60 (nF ch), aI G (ad 12) 31 (nF fi), aI G (ad 13) 31 (nF se)] sz (Ri G (fun (r_ : Int32) (u : Nat × (Nat → Nat) × (Nat → Nat)) => r_ = bI ((celR ch len at_).1) ∧ ((celR ch len at_).1 = true → u.2.1 = va_up fi many (celR ch len at_).2.2.1 ∧ u.2.2 = va_up se many (celR ch len at_).2.2.2)) (fun (u : Nat × (Nat → Nat) × (Nat → Nat)) => [oM h ad thr sts hs len ((celR ch len at_).2.1) u.1 many, aI G (ad 4) 60 (nF ch), aI G (ad 12) 31 (nF u.2.1), aI G (ad 13) 31 (nF u.2.2)])) := by
  refine CT.go (by decide) (Nat.le_of_ble_eq_true rfl) (fun p e s m below meth c A ls AR QQ hx hb hr hlk hml hown hnm hts hE hA hAb hsz hP hD hS hl hQQ => ?_)
  have hK := hE.1
  have hown : s.vm.findClass RX9 = some m.cls := hown
  have hl : lv_has ls 1 [(0, .ref h)] := hl
  clear hsz
  have hr1 := rdR_at (ch := ch) (lo := 0) (hi := 7) hat
  have hr2 := sgA_le (ch := ch) (c := 46) hr1.1
  have hr3 := rdR_at (ch := ch) (lo := 0) (hi := 7) hr2.1
  refine lv_aload_n hx hb dX9_cell_0 rfl (lv_at hl 0 rfl) ?_
  refine lv_iconst (v := nI 0) hx hb dX9_cell_1 (by decide) ?_
  refine lv_bipush (v := nI 7) hx hb dX9_cell_2 (by decide) ?_
  refine fin_i (ws' := (fun (_ : Unit) => [oM h ad thr sts hs len ((rdR ch len 0 7 at_).2.2) ((rdR ch len 0 7 at_).2.1) many, aI G (ad 4) 60 (nF ch), aI G (ad 12) 31 (nF fi), aI G (ad 13) 31 (nF se)])) hA hS hP hD [0, 1] rfl [(true, 0), (true, 1), (false, 2), (false, 3)] (fun _ => rfl) (by decide) (run_V (As := [.int (nI 0), .int (nI 7)]) (rest := []) (n9 := 2) hx hb hml hown hts hE hAb hl.1 hS hP hD [0, 1] rfl (by decide) (t_X9_reads l G b0 _ h ad thr sts hs len at_ num many ch 0 7 (by omega) (by omega) (by exact hch) (by omega) (by omega)) (lw_V q2085 q2087 qs99 q129 q2088) 0 rfl rfl ⟨rfl, by decide, by decide, by decide +kernel⟩ ⟨Nat.le_of_ble_eq_true rfl, Nat.le_of_ble_eq_true rfl⟩ ⟨by first | exact Nat.le_of_ble_eq_true rfl | (simp only [rm_X9_cell, rm_X9_reads]; omega), by first | exact Nat.le_of_ble_eq_true rfl | (simp only [rm_X9_cell, rm_X9_reads]; omega)⟩ dX9_cell_4 (Nat.le_of_ble_eq_true rfl) rfl rfl) (fun r_1 u_1 H locs h_1 hP hD hS => ?_)
  have hP : va_P G.1 vwCl [oM h ad thr sts hs len ((rdR ch len 0 7 at_).2.2) ((rdR ch len 0 7 at_).2.1) many, aI G (ad 4) 60 (nF ch), aI G (ad 12) 31 (nF fi), aI G (ad 13) 31 (nF se)] _ := hP
  have hD : va_D A [oM h ad thr sts hs len ((rdR ch len 0 7 at_).2.2) ((rdR ch len 0 7 at_).2.1) many, aI G (ad 4) 60 (nF ch), aI G (ad 12) 31 (nF fi), aI G (ad 13) 31 (nF se)] := hD
  have h_1 : r_1 = (bI ((rdR ch len 0 7 at_).1)) := h_1
  rw [h_1]
  refine B_if_ne (tgt := 12) hx hb dX9_cell_7 (by decide) (fun c_7 => ?_) (fun c_7 => ?_)
  · skip
    refine lv_aload_n hx hb dX9_cell_12 rfl (lv_at hl 0 rfl) ?_
    refine va_get (D := G.1) (ci := 8) (v := .ref (ad 12)) (C := RX9) (T := TX9) (N := 21) hx hb hts in_X9 hown hK hP 0 rfl rfl 18 (by decide) (hts _ q1685) (fun _ h9 => h9) rfl dX9_cell_13 ?_
    refine lv_aload_n hx hb dX9_cell_16 rfl (lv_at hl 0 rfl) ?_
    refine va_get (D := G.1) (ci := 8) (v := .int (nI many)) (C := RX9) (T := TX9) (N := 21) hx hb hts in_X9 hown hK hP 0 rfl rfl 16 (by decide) (hts _ q1683) (fun _ h9 => h9) rfl dX9_cell_17 ?_
    refine lv_aload_n hx hb dX9_cell_20 rfl (lv_at hl 0 rfl) ?_
    refine va_get (D := G.1) (ci := 8) (v := .int (nI ((rdR ch len 0 7 at_).2.1))) (C := RX9) (T := TX9) (N := 21) hx hb hts in_X9 hown hK hP 0 rfl rfl 15 (by decide) (hts _ q1682) (fun _ h9 => h9) rfl dX9_cell_21 ?_
    refine N_iast (ws' := [oM h ad thr sts hs len ((rdR ch len 0 7 at_).2.2) ((rdR ch len 0 7 at_).2.1) many, aI G (ad 4) 60 (nF ch), aI G (ad 12) 31 (nF (va_up fi many ((rdR ch len 0 7 at_).2.1))), aI G (ad 13) 31 (nF se)]) hx hb dX9_cell_24 hK hP hD hS 2 0 rfl rfl (by omega) (by omega) (by rw [nF_upd]; rfl) (fun H locs hP hD hS => ?_)
    refine lv_aload_n hx hb dX9_cell_25 rfl (lv_at hl 0 rfl) ?_
    refine lv_bipush (v := nI 46) hx hb dX9_cell_26 (by decide) ?_
    refine fin_i (ws' := (fun (_ : Unit) => [oM h ad thr sts hs len (sgA ch len ((rdR ch len 0 7 at_).2.2) 46) ((rdR ch len 0 7 at_).2.1) many, aI G (ad 4) 60 (nF ch), aI G (ad 12) 31 (nF (va_up fi many ((rdR ch len 0 7 at_).2.1))), aI G (ad 13) 31 (nF se)])) hA hS hP hD [0, 1] rfl [(true, 0), (true, 1), (false, 2), (false, 3)] (fun _ => rfl) (by decide) (run_V (As := [.int (nI 46)]) (rest := []) (n9 := 1) hx hb hml hown hts hE hAb hl.1 hS hP hD [0, 1] rfl (by decide) (t_X9_sign l G b0 _ h ad thr sts hs len ((rdR ch len 0 7 at_).2.2) ((rdR ch len 0 7 at_).2.1) many ch 46 (by omega) (by omega) (by exact hch) (by omega)) (lw_V q2089 q2091 qs100 q129 q2092) 0 rfl rfl ⟨rfl, by decide, by decide, by decide +kernel⟩ ⟨Nat.le_of_ble_eq_true rfl, Nat.le_of_ble_eq_true rfl⟩ ⟨by first | exact Nat.le_of_ble_eq_true rfl | (simp only [rm_X9_cell, rm_X9_sign]; omega), by first | exact Nat.le_of_ble_eq_true rfl | (simp only [rm_X9_cell, rm_X9_sign]; omega)⟩ dX9_cell_28 (Nat.le_of_ble_eq_true rfl) rfl rfl) (fun r_2 u_2 H locs h_2 hP hD hS => ?_)
    have hP : va_P G.1 vwCl [oM h ad thr sts hs len (sgA ch len ((rdR ch len 0 7 at_).2.2) 46) ((rdR ch len 0 7 at_).2.1) many, aI G (ad 4) 60 (nF ch), aI G (ad 12) 31 (nF (va_up fi many ((rdR ch len 0 7 at_).2.1))), aI G (ad 13) 31 (nF se)] _ := hP
    have hD : va_D A [oM h ad thr sts hs len (sgA ch len ((rdR ch len 0 7 at_).2.2) 46) ((rdR ch len 0 7 at_).2.1) many, aI G (ad 4) 60 (nF ch), aI G (ad 12) 31 (nF (va_up fi many ((rdR ch len 0 7 at_).2.1))), aI G (ad 13) 31 (nF se)] := hD
    have h_2 : r_2 = (bI (sgB ch len ((rdR ch len 0 7 at_).2.2) 46)) := h_2
    rw [h_2]
    refine B_if_eq (tgt := 44) hx hb dX9_cell_31 (by decide) (fun c_31 => ?_) (fun c_31 => ?_)
    · skip
      refine lv_iconst (v := nI 0) hx hb dX9_cell_44 (by decide) ?_
      have e_3 : (sgA ch len ((rdR ch len 0 7 at_).2.2) 46) = ((celR ch len at_).2.1) := by first | rfl | (unfold celR; first | done | skip; try rw [if_pos c_7]; try rw [if_neg (ne_true_of_eq_false c_31)]; first | done | rfl)
      rw [e_3] at hP hD
      have hP : va_P G.1 vwCl [oM h ad thr sts hs len ((celR ch len at_).2.1) ((((rdR ch len 0 7 at_).2.1, va_up fi many ((rdR ch len 0 7 at_).2.1), se)).1) many, aI G (ad 4) 60 (nF ch), aI G (ad 12) 31 (nF ((((rdR ch len 0 7 at_).2.1, va_up fi many ((rdR ch len 0 7 at_).2.1), se)).2.1)), aI G (ad 13) 31 (nF ((((rdR ch len 0 7 at_).2.1, va_up fi many ((rdR ch len 0 7 at_).2.1), se)).2.2))] _ := hP
      have hD : va_D A [oM h ad thr sts hs len ((celR ch len at_).2.1) ((((rdR ch len 0 7 at_).2.1, va_up fi many ((rdR ch len 0 7 at_).2.1), se)).1) many, aI G (ad 4) 60 (nF ch), aI G (ad 12) 31 (nF ((((rdR ch len 0 7 at_).2.1, va_up fi many ((rdR ch len 0 7 at_).2.1), se)).2.1)), aI G (ad 13) 31 (nF ((((rdR ch len 0 7 at_).2.1, va_up fi many ((rdR ch len 0 7 at_).2.1), se)).2.2))] := hD
      rw [hQQ]
      exact rt_z hx hb hr hlk (by first | exact bI_nar _ | rfl) (((rdR ch len 0 7 at_).2.1, va_up fi many ((rdR ch len 0 7 at_).2.1), se)) dX9_cell_45 hP hD hS (by first | exact Nat.le_of_ble_eq_true rfl | (simp only [rm_X9_cell]; omega)) (by first | exact Nat.le_of_ble_eq_true rfl | (simp only [rm_X9_cell]; omega)) ⟨(by first | rfl | (unfold celR; first | done | skip; try rw [if_pos c_7]; try rw [if_neg (ne_true_of_eq_false c_31)]; first | done | rfl)), by intro hf_; unfold celR at hf_ ⊢; try rw [if_pos c_7] at hf_ ⊢; try rw [if_neg (ne_true_of_eq_false c_31)] at hf_ ⊢; first | done | rfl | exact ⟨rfl, rfl⟩ | exact ⟨rfl, rfl, rfl⟩ | exact absurd hf_ Bool.false_ne_true | cases hf_ | (simp at hf_)⟩
    · skip
      refine lv_aload_n hx hb dX9_cell_34 rfl (lv_at hl 0 rfl) ?_
      refine lv_iconst (v := nI 0) hx hb dX9_cell_35 (by decide) ?_
      refine lv_bipush (v := nI 7) hx hb dX9_cell_36 (by decide) ?_
      refine fin_i (ws' := (fun (_ : Unit) => [oM h ad thr sts hs len ((rdR ch len 0 7 (sgA ch len ((rdR ch len 0 7 at_).2.2) 46)).2.2) ((rdR ch len 0 7 (sgA ch len ((rdR ch len 0 7 at_).2.2) 46)).2.1) many, aI G (ad 4) 60 (nF ch), aI G (ad 12) 31 (nF (va_up fi many ((rdR ch len 0 7 at_).2.1))), aI G (ad 13) 31 (nF se)])) hA hS hP hD [0, 1] rfl [(true, 0), (true, 1), (false, 2), (false, 3)] (fun _ => rfl) (by decide) (run_V (As := [.int (nI 0), .int (nI 7)]) (rest := []) (n9 := 2) hx hb hml hown hts hE hAb hl.1 hS hP hD [0, 1] rfl (by decide) (t_X9_reads l G b0 _ h ad thr sts hs len (sgA ch len ((rdR ch len 0 7 at_).2.2) 46) ((rdR ch len 0 7 at_).2.1) many ch 0 7 (by omega) (by omega) (by exact hch) (by omega) (by omega)) (lw_V q2085 q2087 qs99 q129 q2088) 0 rfl rfl ⟨rfl, by decide, by decide, by decide +kernel⟩ ⟨Nat.le_of_ble_eq_true rfl, Nat.le_of_ble_eq_true rfl⟩ ⟨by first | exact Nat.le_of_ble_eq_true rfl | (simp only [rm_X9_cell, rm_X9_reads]; omega), by first | exact Nat.le_of_ble_eq_true rfl | (simp only [rm_X9_cell, rm_X9_reads]; omega)⟩ dX9_cell_38 (Nat.le_of_ble_eq_true rfl) rfl rfl) (fun r_4 u_4 H locs h_4 hP hD hS => ?_)
      have hP : va_P G.1 vwCl [oM h ad thr sts hs len ((rdR ch len 0 7 (sgA ch len ((rdR ch len 0 7 at_).2.2) 46)).2.2) ((rdR ch len 0 7 (sgA ch len ((rdR ch len 0 7 at_).2.2) 46)).2.1) many, aI G (ad 4) 60 (nF ch), aI G (ad 12) 31 (nF (va_up fi many ((rdR ch len 0 7 at_).2.1))), aI G (ad 13) 31 (nF se)] _ := hP
      have hD : va_D A [oM h ad thr sts hs len ((rdR ch len 0 7 (sgA ch len ((rdR ch len 0 7 at_).2.2) 46)).2.2) ((rdR ch len 0 7 (sgA ch len ((rdR ch len 0 7 at_).2.2) 46)).2.1) many, aI G (ad 4) 60 (nF ch), aI G (ad 12) 31 (nF (va_up fi many ((rdR ch len 0 7 at_).2.1))), aI G (ad 13) 31 (nF se)] := hD
      have h_4 : r_4 = (bI ((rdR ch len 0 7 (sgA ch len ((rdR ch len 0 7 at_).2.2) 46)).1)) := h_4
      rw [h_4]
      refine B_if_ne (tgt := 46) hx hb dX9_cell_41 (by decide) (fun c_41 => ?_) (fun c_41 => ?_)
      · skip
        refine lv_aload_n hx hb dX9_cell_46 rfl (lv_at hl 0 rfl) ?_
        refine va_get (D := G.1) (ci := 8) (v := .ref (ad 13)) (C := RX9) (T := TX9) (N := 21) hx hb hts in_X9 hown hK hP 0 rfl rfl 19 (by decide) (hts _ q1686) (fun _ h9 => h9) rfl dX9_cell_47 ?_
        refine lv_aload_n hx hb dX9_cell_50 rfl (lv_at hl 0 rfl) ?_
        refine va_get (D := G.1) (ci := 8) (v := .int (nI many)) (C := RX9) (T := TX9) (N := 21) hx hb hts in_X9 hown hK hP 0 rfl rfl 16 (by decide) (hts _ q1683) (fun _ h9 => h9) rfl dX9_cell_51 ?_
        refine lv_aload_n hx hb dX9_cell_54 rfl (lv_at hl 0 rfl) ?_
        refine va_get (D := G.1) (ci := 8) (v := .int (nI ((rdR ch len 0 7 (sgA ch len ((rdR ch len 0 7 at_).2.2) 46)).2.1))) (C := RX9) (T := TX9) (N := 21) hx hb hts in_X9 hown hK hP 0 rfl rfl 15 (by decide) (hts _ q1682) (fun _ h9 => h9) rfl dX9_cell_55 ?_
        refine N_iast (ws' := [oM h ad thr sts hs len ((rdR ch len 0 7 (sgA ch len ((rdR ch len 0 7 at_).2.2) 46)).2.2) ((rdR ch len 0 7 (sgA ch len ((rdR ch len 0 7 at_).2.2) 46)).2.1) many, aI G (ad 4) 60 (nF ch), aI G (ad 12) 31 (nF (va_up fi many ((rdR ch len 0 7 at_).2.1))), aI G (ad 13) 31 (nF (va_up se many ((rdR ch len 0 7 (sgA ch len ((rdR ch len 0 7 at_).2.2) 46)).2.1)))]) hx hb dX9_cell_58 hK hP hD hS 3 0 rfl rfl (by omega) (by omega) (by rw [nF_upd]; rfl) (fun H locs hP hD hS => ?_)
        refine lv_aload_n hx hb dX9_cell_59 rfl (lv_at hl 0 rfl) ?_
        refine lv_bipush (v := nI 61) hx hb dX9_cell_60 (by decide) ?_
        refine fin_i (ws' := (fun (_ : Unit) => [oM h ad thr sts hs len (sgA ch len ((rdR ch len 0 7 (sgA ch len ((rdR ch len 0 7 at_).2.2) 46)).2.2) 61) ((rdR ch len 0 7 (sgA ch len ((rdR ch len 0 7 at_).2.2) 46)).2.1) many, aI G (ad 4) 60 (nF ch), aI G (ad 12) 31 (nF (va_up fi many ((rdR ch len 0 7 at_).2.1))), aI G (ad 13) 31 (nF (va_up se many ((rdR ch len 0 7 (sgA ch len ((rdR ch len 0 7 at_).2.2) 46)).2.1)))])) hA hS hP hD [0, 1] rfl [(true, 0), (true, 1), (false, 2), (false, 3)] (fun _ => rfl) (by decide) (run_V (As := [.int (nI 61)]) (rest := []) (n9 := 1) hx hb hml hown hts hE hAb hl.1 hS hP hD [0, 1] rfl (by decide) (t_X9_sign l G b0 _ h ad thr sts hs len ((rdR ch len 0 7 (sgA ch len ((rdR ch len 0 7 at_).2.2) 46)).2.2) ((rdR ch len 0 7 (sgA ch len ((rdR ch len 0 7 at_).2.2) 46)).2.1) many ch 61 (by omega) (by omega) (by exact hch) (by omega)) (lw_V q2089 q2091 qs100 q129 q2092) 0 rfl rfl ⟨rfl, by decide, by decide, by decide +kernel⟩ ⟨Nat.le_of_ble_eq_true rfl, Nat.le_of_ble_eq_true rfl⟩ ⟨by first | exact Nat.le_of_ble_eq_true rfl | (simp only [rm_X9_cell, rm_X9_sign]; omega), by first | exact Nat.le_of_ble_eq_true rfl | (simp only [rm_X9_cell, rm_X9_sign]; omega)⟩ dX9_cell_62 (Nat.le_of_ble_eq_true rfl) rfl rfl) (fun r_5 u_5 H locs h_5 hP hD hS => ?_)
        have hP : va_P G.1 vwCl [oM h ad thr sts hs len (sgA ch len ((rdR ch len 0 7 (sgA ch len ((rdR ch len 0 7 at_).2.2) 46)).2.2) 61) ((rdR ch len 0 7 (sgA ch len ((rdR ch len 0 7 at_).2.2) 46)).2.1) many, aI G (ad 4) 60 (nF ch), aI G (ad 12) 31 (nF (va_up fi many ((rdR ch len 0 7 at_).2.1))), aI G (ad 13) 31 (nF (va_up se many ((rdR ch len 0 7 (sgA ch len ((rdR ch len 0 7 at_).2.2) 46)).2.1)))] _ := hP
        have hD : va_D A [oM h ad thr sts hs len (sgA ch len ((rdR ch len 0 7 (sgA ch len ((rdR ch len 0 7 at_).2.2) 46)).2.2) 61) ((rdR ch len 0 7 (sgA ch len ((rdR ch len 0 7 at_).2.2) 46)).2.1) many, aI G (ad 4) 60 (nF ch), aI G (ad 12) 31 (nF (va_up fi many ((rdR ch len 0 7 at_).2.1))), aI G (ad 13) 31 (nF (va_up se many ((rdR ch len 0 7 (sgA ch len ((rdR ch len 0 7 at_).2.2) 46)).2.1)))] := hD
        have h_5 : r_5 = (bI (sgB ch len ((rdR ch len 0 7 (sgA ch len ((rdR ch len 0 7 at_).2.2) 46)).2.2) 61)) := h_5
        rw [h_5]
        have e_6 : (sgA ch len ((rdR ch len 0 7 (sgA ch len ((rdR ch len 0 7 at_).2.2) 46)).2.2) 61) = ((celR ch len at_).2.1) := by first | rfl | (unfold celR; first | done | skip; try rw [if_pos c_7]; try rw [if_pos c_31]; try rw [if_pos c_41]; first | done | rfl)
        rw [e_6] at hP hD
        have hP : va_P G.1 vwCl [oM h ad thr sts hs len ((celR ch len at_).2.1) ((((rdR ch len 0 7 (sgA ch len ((rdR ch len 0 7 at_).2.2) 46)).2.1, va_up fi many ((rdR ch len 0 7 at_).2.1), va_up se many ((rdR ch len 0 7 (sgA ch len ((rdR ch len 0 7 at_).2.2) 46)).2.1))).1) many, aI G (ad 4) 60 (nF ch), aI G (ad 12) 31 (nF ((((rdR ch len 0 7 (sgA ch len ((rdR ch len 0 7 at_).2.2) 46)).2.1, va_up fi many ((rdR ch len 0 7 at_).2.1), va_up se many ((rdR ch len 0 7 (sgA ch len ((rdR ch len 0 7 at_).2.2) 46)).2.1))).2.1)), aI G (ad 13) 31 (nF ((((rdR ch len 0 7 (sgA ch len ((rdR ch len 0 7 at_).2.2) 46)).2.1, va_up fi many ((rdR ch len 0 7 at_).2.1), va_up se many ((rdR ch len 0 7 (sgA ch len ((rdR ch len 0 7 at_).2.2) 46)).2.1))).2.2))] _ := hP
        have hD : va_D A [oM h ad thr sts hs len ((celR ch len at_).2.1) ((((rdR ch len 0 7 (sgA ch len ((rdR ch len 0 7 at_).2.2) 46)).2.1, va_up fi many ((rdR ch len 0 7 at_).2.1), va_up se many ((rdR ch len 0 7 (sgA ch len ((rdR ch len 0 7 at_).2.2) 46)).2.1))).1) many, aI G (ad 4) 60 (nF ch), aI G (ad 12) 31 (nF ((((rdR ch len 0 7 (sgA ch len ((rdR ch len 0 7 at_).2.2) 46)).2.1, va_up fi many ((rdR ch len 0 7 at_).2.1), va_up se many ((rdR ch len 0 7 (sgA ch len ((rdR ch len 0 7 at_).2.2) 46)).2.1))).2.1)), aI G (ad 13) 31 (nF ((((rdR ch len 0 7 (sgA ch len ((rdR ch len 0 7 at_).2.2) 46)).2.1, va_up fi many ((rdR ch len 0 7 at_).2.1), va_up se many ((rdR ch len 0 7 (sgA ch len ((rdR ch len 0 7 at_).2.2) 46)).2.1))).2.2))] := hD
        rw [hQQ]
        exact rt_z hx hb hr hlk (by first | exact bI_nar _ | rfl) (((rdR ch len 0 7 (sgA ch len ((rdR ch len 0 7 at_).2.2) 46)).2.1, va_up fi many ((rdR ch len 0 7 at_).2.1), va_up se many ((rdR ch len 0 7 (sgA ch len ((rdR ch len 0 7 at_).2.2) 46)).2.1))) dX9_cell_65 hP hD hS (by first | exact Nat.le_of_ble_eq_true rfl | (simp only [rm_X9_cell]; omega)) (by first | exact Nat.le_of_ble_eq_true rfl | (simp only [rm_X9_cell]; omega)) ⟨(by first | rfl | (unfold celR; first | done | skip; try rw [if_pos c_7]; try rw [if_pos c_31]; try rw [if_pos c_41]; first | done | rfl)), by intro hf_; unfold celR at hf_ ⊢; try rw [if_pos c_7] at hf_ ⊢; try rw [if_pos c_31] at hf_ ⊢; try rw [if_pos c_41] at hf_ ⊢; first | done | rfl | exact ⟨rfl, rfl⟩ | exact ⟨rfl, rfl, rfl⟩ | exact absurd hf_ Bool.false_ne_true | cases hf_ | (simp at hf_)⟩
      · skip
        refine lv_iconst (v := nI 0) hx hb dX9_cell_44 (by decide) ?_
        have e_7 : ((rdR ch len 0 7 (sgA ch len ((rdR ch len 0 7 at_).2.2) 46)).2.2) = ((celR ch len at_).2.1) := by first | rfl | (unfold celR; first | done | skip; try rw [if_pos c_7]; try rw [if_pos c_31]; try rw [if_neg (ne_true_of_eq_false c_41)]; first | done | rfl)
        rw [e_7] at hP hD
        have hP : va_P G.1 vwCl [oM h ad thr sts hs len ((celR ch len at_).2.1) ((((rdR ch len 0 7 (sgA ch len ((rdR ch len 0 7 at_).2.2) 46)).2.1, va_up fi many ((rdR ch len 0 7 at_).2.1), se)).1) many, aI G (ad 4) 60 (nF ch), aI G (ad 12) 31 (nF ((((rdR ch len 0 7 (sgA ch len ((rdR ch len 0 7 at_).2.2) 46)).2.1, va_up fi many ((rdR ch len 0 7 at_).2.1), se)).2.1)), aI G (ad 13) 31 (nF ((((rdR ch len 0 7 (sgA ch len ((rdR ch len 0 7 at_).2.2) 46)).2.1, va_up fi many ((rdR ch len 0 7 at_).2.1), se)).2.2))] _ := hP
        have hD : va_D A [oM h ad thr sts hs len ((celR ch len at_).2.1) ((((rdR ch len 0 7 (sgA ch len ((rdR ch len 0 7 at_).2.2) 46)).2.1, va_up fi many ((rdR ch len 0 7 at_).2.1), se)).1) many, aI G (ad 4) 60 (nF ch), aI G (ad 12) 31 (nF ((((rdR ch len 0 7 (sgA ch len ((rdR ch len 0 7 at_).2.2) 46)).2.1, va_up fi many ((rdR ch len 0 7 at_).2.1), se)).2.1)), aI G (ad 13) 31 (nF ((((rdR ch len 0 7 (sgA ch len ((rdR ch len 0 7 at_).2.2) 46)).2.1, va_up fi many ((rdR ch len 0 7 at_).2.1), se)).2.2))] := hD
        rw [hQQ]
        exact rt_z hx hb hr hlk (by first | exact bI_nar _ | rfl) (((rdR ch len 0 7 (sgA ch len ((rdR ch len 0 7 at_).2.2) 46)).2.1, va_up fi many ((rdR ch len 0 7 at_).2.1), se)) dX9_cell_45 hP hD hS (by first | exact Nat.le_of_ble_eq_true rfl | (simp only [rm_X9_cell]; omega)) (by first | exact Nat.le_of_ble_eq_true rfl | (simp only [rm_X9_cell]; omega)) ⟨(by first | rfl | (unfold celR; first | done | skip; try rw [if_pos c_7]; try rw [if_pos c_31]; try rw [if_neg (ne_true_of_eq_false c_41)]; first | done | rfl)), by intro hf_; unfold celR at hf_ ⊢; try rw [if_pos c_7] at hf_ ⊢; try rw [if_pos c_31] at hf_ ⊢; try rw [if_neg (ne_true_of_eq_false c_41)] at hf_ ⊢; first | done | rfl | exact ⟨rfl, rfl⟩ | exact ⟨rfl, rfl, rfl⟩ | exact absurd hf_ Bool.false_ne_true | cases hf_ | (simp at hf_)⟩
  · skip
    refine lv_iconst (v := nI 0) hx hb dX9_cell_10 (by decide) ?_
    have e_8 : ((rdR ch len 0 7 at_).2.2) = ((celR ch len at_).2.1) := by first | rfl | (unfold celR; first | done | skip; try rw [if_neg (ne_true_of_eq_false c_7)]; first | done | rfl)
    rw [e_8] at hP hD
    have hP : va_P G.1 vwCl [oM h ad thr sts hs len ((celR ch len at_).2.1) ((((rdR ch len 0 7 at_).2.1, fi, se)).1) many, aI G (ad 4) 60 (nF ch), aI G (ad 12) 31 (nF ((((rdR ch len 0 7 at_).2.1, fi, se)).2.1)), aI G (ad 13) 31 (nF ((((rdR ch len 0 7 at_).2.1, fi, se)).2.2))] _ := hP
    have hD : va_D A [oM h ad thr sts hs len ((celR ch len at_).2.1) ((((rdR ch len 0 7 at_).2.1, fi, se)).1) many, aI G (ad 4) 60 (nF ch), aI G (ad 12) 31 (nF ((((rdR ch len 0 7 at_).2.1, fi, se)).2.1)), aI G (ad 13) 31 (nF ((((rdR ch len 0 7 at_).2.1, fi, se)).2.2))] := hD
    rw [hQQ]
    exact rt_z hx hb hr hlk (by first | exact bI_nar _ | rfl) (((rdR ch len 0 7 at_).2.1, fi, se)) dX9_cell_11 hP hD hS (by first | exact Nat.le_of_ble_eq_true rfl | (simp only [rm_X9_cell]; omega)) (by first | exact Nat.le_of_ble_eq_true rfl | (simp only [rm_X9_cell]; omega)) ⟨(by first | rfl | (unfold celR; first | done | skip; try rw [if_neg (ne_true_of_eq_false c_7)]; first | done | rfl)), by intro hf_; unfold celR at hf_ ⊢; try rw [if_neg (ne_true_of_eq_false c_7)] at hf_ ⊢; first | done | rfl | exact ⟨rfl, rfl⟩ | exact ⟨rfl, rfl, rfl⟩ | exact absurd hf_ Bool.false_ne_true | cases hf_ | (simp at hf_)⟩
