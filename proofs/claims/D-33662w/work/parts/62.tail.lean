/-! ===== tails: cells that nobody names ===== -/
def tlI : Nat → Nat → List Nat
  | _, 0 => []
  | n, k + 1 => n :: tlI (n + 1) k
theorem tlI_in {n k x : Nat} (h : x ∈ tlI n k) : n ≤ x := by
  induction k generalizing n with
  | zero => cases h
  | succ k ih =>
    rcases List.mem_cons.mp h with h | h
    · omega
    · have := ih h
      omega
theorem tlI_nd {n k : Nat} : va_nd (tlI n k) = true := by
  induction k generalizing n with
  | zero => rfl
  | succ k ih =>
    show (decide (n ∉ tlI (n + 1) k) && va_nd (tlI (n + 1) k)) = true
    rw [ih, Bool.and_true, decide_eq_true_eq]
    intro h
    have := tlI_in h
    omega
theorem tlI_C {tl : va_W} : ∀ (ws : va_W), (tlI ws.length tl.length).map (fun i => (ws ++ tl)[i]?) = tl.map some := by
  induction tl with
  | nil => intro ws; rfl
  | cons x tl ih =>
    intro ws
    have h := ih (ws ++ [x])
    rw [List.append_assoc, List.length_append] at h
    show (ws ++ x :: tl)[ws.length]? :: _ = some x :: _
    rw [List.getElem?_append_right (Nat.le_refl _), Nat.sub_self]
    exact congrArg (some x :: ·) h
/-- the picked ones, and a tail behind n others -/
def isT (isC : List Nat) (n : Nat) (tl : va_W) : List Nat := isC ++ tlI n tl.length
theorem isC_lt {isC : List Nat} {ws wc : va_W} (hC : isC.map (fun i => ws[i]?) = wc.map some) : ∀ i ∈ isC, i < ws.length := by
  intro i hi
  obtain ⟨k, hk2⟩ := List.getElem?_of_mem hi
  have h1 : (isC.map (fun i => ws[i]?))[k]? = some ws[i]? := by rw [List.getElem?_map, hk2]; rfl
  rw [hC, List.getElem?_map] at h1
  cases hw : wc[k]? with
  | none => rw [hw] at h1; cases h1
  | some x => rw [hw] at h1; exact (List.getElem?_eq_some_iff.mp (Option.some.inj h1).symm).1
theorem isT_C {isC : List Nat} {ws wc tl : va_W} (hC : isC.map (fun i => ws[i]?) = wc.map some) : (isT isC ws.length tl).map (fun i => (ws ++ tl)[i]?) = (wc ++ tl).map some := by
  unfold isT
  rw [List.map_append, List.map_append, tlI_C ws, ← hC]
  congr 1
  exact List.map_congr_left (fun i hi => List.getElem?_append_left (isC_lt hC i hi))
theorem isT_n {isC : List Nat} {n : Nat} {tl : va_W} (h : (va_nd isC && isC.all (fun i => decide (i < n))) = true) : va_nd (isT isC n tl) = true := by
  rw [Bool.and_eq_true, List.all_eq_true] at h
  obtain ⟨h1, h2⟩ := h
  unfold isT
  induction isC with
  | nil => exact tlI_nd
  | cons a l ih =>
    have h1' : (decide (a ∉ l) && va_nd l) = true := h1
    rw [Bool.and_eq_true, decide_eq_true_eq] at h1'
    show (decide (a ∉ l ++ tlI n tl.length) && va_nd (l ++ tlI n tl.length)) = true
    rw [ih h1'.2 (fun x hx => h2 x (List.mem_cons_of_mem _ hx)), Bool.and_true, decide_eq_true_eq]
    intro h
    rcases List.mem_append.mp h with h | h
    · exact h1'.1 h
    · have := tlI_in h
      have := of_decide_eq_true (h2 a (List.mem_cons_self ..))
      omega
/-- behind a call that had the tail -/
theorem fr_selP {D : va_G} {cl : List vw_C} {A0 : Nat → Prop} {ws wc w1 ws' tl tl1 : va_W} {H H1 : Heap} (isC : List Nat) (sel : List (Bool × Nat)) (n1 : Nat) (hC : isC.map (fun i => ws[i]?) = wc.map some) (hsel : sel.map (fun q => if q.1 = true then w1[q.2]? else ws[q.2]?) = ws'.map some) (hn1 : w1.length = n1) (hok : (selOk isC sel && sel.all (fun q => !q.1 || decide (q.2 < n1))) = true)
    (hP : va_P D cl (ws ++ tl) H) (hD : va_D A0 (ws ++ tl)) (hk : ∀ q : Nat, q < H.size → ¬ va_A (wc ++ tl) H.size q → H1[q]? = H[q]?) (hF : ∀ q, va_A (wc ++ tl) H.size q → A0 q) (hP1 : va_P D cl (w1 ++ tl1) H1) (hD1 : va_D (va_A (wc ++ tl) H.size) (w1 ++ tl1)) : va_P D cl (ws' ++ tl1) H1 ∧ va_D A0 (ws' ++ tl1) := by
  subst hn1
  rw [Bool.and_eq_true, List.all_eq_true] at hok
  obtain ⟨hok, hw1⟩ := hok
  obtain ⟨hnd, hno⟩ := selOk_spec hok
  have hlen : sel.length = ws'.length := by simpa using congrArg List.length hsel
  have hget : ∀ (k : Nat) (q : Nat × va_E), ws'[k]? = some q → ∃ z, sel[k]? = some z ∧ (if z.1 = true then w1[z.2]? else ws[z.2]?) = some q := by
    intro k q hq
    have h1 : (sel.map (fun q => if q.1 = true then w1[q.2]? else ws[q.2]?))[k]? = some (some q) := by rw [hsel, List.getElem?_map, hq]; rfl
    rw [List.getElem?_map] at h1
    cases hz : sel[k]? with
    | none => rw [hz] at h1; cases h1
    | some z => rw [hz] at h1; exact ⟨z, rfl, Option.some.inj h1⟩
  have hall : ∀ z ∈ sel, z.1 = false → z.2 < ws.length := by
    intro z hz hb
    obtain ⟨k, hk2⟩ := List.getElem?_of_mem hz
    have hk3 : k < ws'.length := by rw [← hlen]; exact (List.getElem?_eq_some_iff.mp hk2).1
    obtain ⟨z2, h1, h2⟩ := hget k _ (List.getElem?_eq_getElem hk3)
    rw [hk2] at h1
    cases h1
    rw [if_neg (by rw [hb]; decide)] at h2
    exact (List.getElem?_eq_some_iff.mp h2).1
  refine fr_core (isT isC ws.length tl) (fun k => if k < ws'.length then sel.getD k (false, 0) else (true, w1.length + (k - ws'.length))) (wc := wc ++ tl) (ws := ws ++ tl) (w1 := w1 ++ tl1) (isT_C hC) ?_ ?_ ?_ hP hD hk hF hP1 hD1
  · intro k q hq
    by_cases hkl : k < ws'.length
    · rw [List.getElem?_append_left hkl] at hq
      obtain ⟨z, h1, h2⟩ := hget k q hq
      simp only [hkl, if_true, List.getD_eq_getElem?_getD, h1, Option.getD_some]
      by_cases hb : z.1 = true
      · rw [if_pos hb] at h2 ⊢
        rw [List.getElem?_append_left (List.getElem?_eq_some_iff.mp h2).1]
        exact h2
      · rw [if_neg hb] at h2 ⊢
        rw [List.getElem?_append_left (List.getElem?_eq_some_iff.mp h2).1]
        exact h2
    · rw [List.getElem?_append_right (by omega)] at hq
      simp only [hkl, if_false]
      rw [if_pos trivial, List.getElem?_append_right (by omega), show w1.length + (k - ws'.length) - w1.length = k - ws'.length by omega]
      exact hq
  · intro i j hi hj hij
    have low : ∀ k, k < ws'.length → sel.getD k (false, 0) ≠ (true, w1.length + (j - ws'.length)) ∧ sel.getD k (false, 0) ≠ (true, w1.length + (i - ws'.length)) := by
      intro k hkl
      rw [List.getD_eq_getElem?_getD, List.getElem?_eq_getElem (by omega), Option.getD_some]
      have hm := hw1 _ (List.getElem_mem (l := sel) (n := k) (by omega))
      constructor
      · intro z
        rw [z] at hm
        simp at hm
        omega
      · intro z
        rw [z] at hm
        simp at hm
        omega
    by_cases h1 : i < ws'.length <;> by_cases h2 : j < ws'.length
    · simp only [h1, h2, if_true, List.getD_eq_getElem?_getD] at hij
      rw [List.getElem?_eq_getElem (by omega), List.getElem?_eq_getElem (by omega), Option.getD_some, Option.getD_some] at hij
      exact (List.getElem?_inj (show i < sel.length by omega) hnd).mp (by rw [List.getElem?_eq_getElem (show i < sel.length by omega), List.getElem?_eq_getElem (show j < sel.length by omega), hij])
    · simp only [h1, h2, if_true, if_false] at hij
      exact absurd hij (low i h1).1
    · simp only [h1, h2, if_true, if_false] at hij
      exact absurd hij.symm (low j h2).2
    · simp only [h1, h2, if_false, Prod.mk.injEq, true_and] at hij
      omega
  · intro k hkl hb hin
    by_cases h1 : k < ws'.length
    · simp only [h1, if_true, List.getD_eq_getElem?_getD] at hb hin
      rw [List.getElem?_eq_getElem (by omega), Option.getD_some] at hb hin
      rcases List.mem_append.mp hin with h | h
      · exact hno _ (List.getElem_mem _) hb h
      · have := tlI_in h
        have := hall _ (List.getElem_mem (l := sel) (n := k) (by omega)) hb
        omega
    · simp only [h1, if_false] at hb
      cases hb
section CLT
variable {p : Program} {l : Launch} {e : Jvm.Env} {R : Room} {s : State} {m : MethodId} {args : Array Value} {below : List Frame} {meth : Method} {c : Code} {H : Heap} {locs : List Loc} {cells slots : Nat} {Q : State → Prop}
variable {cc : ByteArray} {pc : Nat} {ls : Array Slot} {rest : List Value} {A : Nat → Prop} {G : GG} {b0 : Nat}
variable {y : MethodName} {bytes : ByteArray} {maxL nL index : Nat} {rt : Option FieldType} {rm : Room} {own C host : String} {b : Nat} {As : List Value} {wc ws : va_W} {Qc : Qt} {n9 : Nat}
section FINT
variable {S : Type} {wp ws' : S → va_W} {mc ms : Nat} {st0 : List Value} {a9 : Array Value}
theorem fin_iF {post : Int32 → S → Prop} (hS : va_S A s.heap H locs) (hF : ∀ q, va_A wc H.size q → A q)
    (hr : va_Run p l e R s m args below meth c H locs cells slots mc ms (F0 m pc ls st0) rest (Ri G post wp (va_A wc H.size) a9) (va_A wc H.size))
    (hfr : ∀ (u : S) (H1 : Heap), (∀ q : Nat, q < H.size → ¬ va_A wc H.size q → H1[q]? = H[q]?) → va_P G.1 vwCl (wp u) H1 → va_D (va_A wc H.size) (wp u) → va_P G.1 vwCl (ws' u) H1 ∧ va_D A (ws' u))
    (kk : ∀ (r : Int32) (u : S) (H1 : Heap) (locs1 : List Loc), post r u → va_P G.1 vwCl (ws' u) H1 → va_D A (ws' u) → va_S A s.heap H1 locs1 → W p l e R s m args below meth c H1 locs1 (cells + mc) (slots + ms) Q (F0 m (pc + 3) ls (.int r :: rest))) : W p l e R s m args below meth c H locs cells slots Q (F0 m pc ls st0) := by
  refine va_calli hr hS (fun q _ h => hF q h) hF (fun r u t H1 locs1 ht hvm hw hB hz1 hk1 hS1 => ?_)
  obtain ⟨hP1, hD1⟩ := hB
  rw [ht] at hP1
  obtain ⟨hP2, hD2⟩ := hfr u H1 hk1 hP1 hD1
  exact kk r u H1 locs1 hw hP2 hD2 hS1
theorem fin_lF {post : Int64 → S → Prop} (hS : va_S A s.heap H locs) (hF : ∀ q, va_A wc H.size q → A q)
    (hr : va_Run p l e R s m args below meth c H locs cells slots mc ms (F0 m pc ls st0) rest (Rl G post wp (va_A wc H.size) a9) (va_A wc H.size))
    (hfr : ∀ (u : S) (H1 : Heap), (∀ q : Nat, q < H.size → ¬ va_A wc H.size q → H1[q]? = H[q]?) → va_P G.1 vwCl (wp u) H1 → va_D (va_A wc H.size) (wp u) → va_P G.1 vwCl (ws' u) H1 ∧ va_D A (ws' u))
    (kk : ∀ (r : Int64) (u : S) (H1 : Heap) (locs1 : List Loc), post r u → va_P G.1 vwCl (ws' u) H1 → va_D A (ws' u) → va_S A s.heap H1 locs1 → W p l e R s m args below meth c H1 locs1 (cells + mc) (slots + ms) Q (F0 m (pc + 3) ls (.long r :: rest))) : W p l e R s m args below meth c H locs cells slots Q (F0 m pc ls st0) := by
  refine va_calll hr hS (fun q _ h => hF q h) hF (fun r u t H1 locs1 ht hvm hw hB hz1 hk1 hS1 => ?_)
  obtain ⟨hP1, hD1⟩ := hB
  rw [ht] at hP1
  obtain ⟨hP2, hD2⟩ := hfr u H1 hk1 hP1 hD1
  exact kk r u H1 locs1 hw hP2 hD2 hS1
theorem fin_dF {post : UInt64 → S → Prop} (hS : va_S A s.heap H locs) (hF : ∀ q, va_A wc H.size q → A q)
    (hr : va_Run p l e R s m args below meth c H locs cells slots mc ms (F0 m pc ls st0) rest (Rd G post wp (va_A wc H.size) a9) (va_A wc H.size))
    (hfr : ∀ (u : S) (H1 : Heap), (∀ q : Nat, q < H.size → ¬ va_A wc H.size q → H1[q]? = H[q]?) → va_P G.1 vwCl (wp u) H1 → va_D (va_A wc H.size) (wp u) → va_P G.1 vwCl (ws' u) H1 ∧ va_D A (ws' u))
    (kk : ∀ (r : UInt64) (u : S) (H1 : Heap) (locs1 : List Loc), post r u → va_P G.1 vwCl (ws' u) H1 → va_D A (ws' u) → va_S A s.heap H1 locs1 → W p l e R s m args below meth c H1 locs1 (cells + mc) (slots + ms) Q (F0 m (pc + 3) ls (.double r :: rest))) : W p l e R s m args below meth c H locs cells slots Q (F0 m pc ls st0) := by
  refine va_calld hr hS (fun q _ h => hF q h) hF (fun r u t H1 locs1 ht hvm hw hB hz1 hk1 hS1 => ?_)
  obtain ⟨hP1, hD1⟩ := hB
  rw [ht] at hP1
  obtain ⟨hP2, hD2⟩ := hfr u H1 hk1 hP1 hD1
  exact kk r u H1 locs1 hw hP2 hD2 hS1
theorem fin_vF {post : S → Prop} (hS : va_S A s.heap H locs) (hF : ∀ q, va_A wc H.size q → A q)
    (hr : va_Run p l e R s m args below meth c H locs cells slots mc ms (F0 m pc ls st0) rest (Rv G post wp (va_A wc H.size) a9) (va_A wc H.size))
    (hfr : ∀ (u : S) (H1 : Heap), (∀ q : Nat, q < H.size → ¬ va_A wc H.size q → H1[q]? = H[q]?) → va_P G.1 vwCl (wp u) H1 → va_D (va_A wc H.size) (wp u) → va_P G.1 vwCl (ws' u) H1 ∧ va_D A (ws' u))
    (kk : ∀ (u : S) (H1 : Heap) (locs1 : List Loc), post u → va_P G.1 vwCl (ws' u) H1 → va_D A (ws' u) → va_S A s.heap H1 locs1 → W p l e R s m args below meth c H1 locs1 (cells + mc) (slots + ms) Q (F0 m (pc + 3) ls rest)) : W p l e R s m args below meth c H locs cells slots Q (F0 m pc ls st0) := by
  refine va_callv hr hS (fun q _ h => hF q h) hF (fun u t H1 locs1 ht hvm hw hB hz1 hk1 hS1 => ?_)
  obtain ⟨hP1, hD1⟩ := hB
  rw [ht] at hP1
  obtain ⟨hP2, hD2⟩ := hfr u H1 hk1 hP1 hD1
  exact kk u H1 locs1 hw hP2 hD2 hS1
theorem fin_rF {post : S → Prop} {ra : S → Nat} (hS : va_S A s.heap H locs) (hF : ∀ q, va_A wc H.size q → A q)
    (hr : va_Run p l e R s m args below meth c H locs cells slots mc ms (F0 m pc ls st0) rest (Rr G post ra wp (va_A wc H.size) a9) (va_A wc H.size))
    (hfr : ∀ (u : S) (H1 : Heap), (∀ q : Nat, q < H.size → ¬ va_A wc H.size q → H1[q]? = H[q]?) → va_P G.1 vwCl (wp u) H1 → va_D (va_A wc H.size) (wp u) → va_P G.1 vwCl (ws' u) H1 ∧ va_D A (ws' u))
    (kk : ∀ (u : S) (H1 : Heap) (locs1 : List Loc), post u → va_P G.1 vwCl (ws' u) H1 → va_D A (ws' u) → va_S A s.heap H1 locs1 → W p l e R s m args below meth c H1 locs1 (cells + mc) (slots + ms) Q (F0 m (pc + 3) ls (.ref (ra u) :: rest))) : W p l e R s m args below meth c H locs cells slots Q (F0 m pc ls st0) := by
  refine va_callr hr hS (fun q _ h => hF q h) hF (fun u r t H1 locs1 ht hvm hw hB hz1 hk1 hS1 => ?_)
  obtain ⟨rfl, hP1, hD1⟩ := hB
  rw [ht] at hP1
  obtain ⟨hP2, hD2⟩ := hfr u H1 hk1 hP1 hD1
  exact kk u H1 locs1 hw hP2 hD2 hS1
end FINT
end CLT
