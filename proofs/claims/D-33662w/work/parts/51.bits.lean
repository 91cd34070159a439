/-! ===== bits ===== -/
section CPL
variable {p : Program} {l : Launch} {e : Jvm.Env} {R : Room} {s : State} {m : MethodId} {args : Array Value} {below : List Frame} {meth : Method} {c : Code} {H : Heap} {locs : List Loc} {cells slots : Nat} {Q : State → Prop}
variable {cc : ByteArray} {pc : Nat} {ls : Array Slot} {rest : List Value} {D : va_G} {cl : List vw_C} {A : Nat → Prop} {a a0 : Nat} {tys : List (ClassId × FieldType)} {ws : va_W} {H0 : Heap} {own : String} {index : Nat}
theorem N_copyl (hx : p.tables.exec = Jvm.exec) (hb : c.code = cc) (hml : c.maxLocals = ls.size) (hown : s.vm.findClass own = some m.cls) (hts : ∀ w ∈ lw_all, w.before args s = true) (h1 : Cond.methodLink own index arraycopyName ∈ lw_all) (h2 : Cond.native arraycopyName ∈ lw_all) (h3 : Cond.static arraycopyName ∈ lw_all) (h4 : Cond.initialized "java/lang/System" ∈ lw_all) (hK : va_K D cl tys s) (hP : va_P D cl ws H) (hD : va_D A ws) (hS : va_S A H0 H locs) (q0 q1 t0 : Nat) {c0 : ClassId} {n0 n1 : Nat} {f g : Nat → Int64} (ha0 : ws[q0]? = some (a0, .inl (c0, n0, .inr (.inl f)))) (ha1 : ws[q1]? = some (a, .inl (c0, n1, .inr (.inl g)))) (ht0 : tys[t0]? = some (c0, .long)) {sp dp n : Nat} (hn0 : n0 < 2147483648) (hn1 : n1 < 2147483648) (h5 : sp + n ≤ n0) (h6 : dp + n ≤ n1)
    (hframes : 1 ≤ R.frames) (hlocals : (rest.map fun v => v.category).sum + (nativeFrameWords "java/lang/System" "arraycopy" 5 + 11) ≤ R.locals) (hdg : decode cc pc = .ok (.invokestatic index, 3)) {ws' : va_W} (hw : ws.set q1 (a, .inl (c0, n1, .inr (.inl (va_cpy f g sp dp n)))) = ws') (kk : ∀ (H1 : Heap) (locs1 : List Loc), va_P D cl ws' H1 → va_D A ws' → va_S A H0 H1 locs1 → W p l e R s m args below meth c H1 locs1 cells slots Q (F0 m (pc + 3) ls rest)) : W p l e R s m args below meth c H locs cells slots Q (F0 m pc ls (.int (nI n) :: .int (nI dp) :: .ref a :: .int (nI sp) :: .ref a0 :: rest)) := by
  subst hw
  have e1 : (nI sp).toNatClampNeg = sp := nI_clamp (by omega)
  have e2 : (nI dp).toNatClampNeg = dp := nI_clamp (by omega)
  have e3 : (nI n).toNatClampNeg = n := nI_clamp (by omega)
  refine va_copyl hx hb hml hown (hts _ h1) (hts _ h2) (hts _ h3) (hts _ h4) hK hP hD hS q0 q1 t0 t0 ha0 ha1 ht0 ht0 rfl (nI_pos (by omega)) (nI_pos (by omega)) (nI_pos (by omega)) (by rw [e1, e3]; exact h5) (by rw [e2, e3]; exact h6) (fun i hi => rfl) hframes hlocals hdg (fun H1 locs1 g1 g2 g3 => ?_)
  rw [e1, e2, e3] at g1 g2
  exact kk H1 locs1 g1 g2 g3
end CPL
theorem min_n {a b : Nat} (h : a ≤ b) (hb : b < 2147483648) : minI (nI a) (nI b) = nI a := by
  unfold minI
  rw [if_neg (fun c => by have := (nI_ltI hb (by omega)).mp c; omega)]
theorem max_n {a b : Nat} (h : b ≤ a) (hb : a < 2147483648) : maxI (nI a) (nI b) = nI a := by
  unfold maxI
  by_cases e : a = b
  · subst e; split <;> rfl
  · rw [if_neg (fun c => by have := (nI_ltI hb (by omega)).mp c; omega)]
/-- zeros below k, from wu down -/
def clJ (w : Nat → Int64) (wu k : Nat) : Nat → Int64 := fun j => if k ≤ j ∧ j < wu then 0 else w j
def rcU (w : Nat → Int64) : Nat → Nat
  | 0 => 0
  | k + 1 => if w k = 0 then rcU w k else k + 1
theorem clJ_s {w : Nat → Int64} {wu k : Nat} (h : 0 < k) (hk : k ≤ wu) : vp_updL (clJ w wu k) (k - 1) 0 = clJ w wu (k - 1) := by
  funext j
  unfold vp_updL clJ
  by_cases e : j = k - 1
  · rw [if_pos e, if_pos (by omega)]
  · rw [if_neg e]
    by_cases h1 : k ≤ j ∧ j < wu
    · rw [if_pos h1, if_pos (by omega)]
    · rw [if_neg h1, if_neg (by omega)]
def rm_J21_copyOf_4 (n1 : Nat) : Room := ({ frames := 1, cells := 1, slots := n1, locals := 60 } : Room)
set_option maxHeartbeats 400000 in
set_option maxRecDepth 100000 in
theorem t_J21_copyOf_4 (l : Launch) (G : GG) (b0 sz : Nat) (a n0 n1 : Nat) (w : Nat → Int64) (hn : n0 < n1) (hn1 : n1 ≤ 1000) : CT l yJ21_copyOf_4 cJ21_copyOf_4 3 (some (FieldType.array FieldType.long)) (rm_J21_copyOf_4 n1) G b0 [.ref a, .int (nI n1)] [aJ G a n0 w] sz (Rr G (fun (u : Nat) => True) (fun (u : Nat) => u) (fun (u : Nat) => [aJ G a n0 w, aJ G u n1 (va_cpy w (fun _ => 0) 0 0 n0)])) := by
  refine CT.go (by decide) (Nat.le_of_ble_eq_true rfl) (fun p e s m below meth c A ls AR QQ hx hb hr hlk hml hown hnm hts hE hA hAb hsz hP hD hS hl hQQ => ?_)
  have hK := hE.1
  have hown : s.vm.findClass RJ21 = some m.cls := hown
  have hl : lv_has ls 3 [(0, .ref a), (1, .int (nI n1))] := hl
  clear hsz
  refine lv_iload_n hx hb dJ21_copyOf_4_0 rfl (lv_at hl 1 rfl) ?_
  refine lv_aload_n hx hb dJ21_copyOf_4_1 rfl (lv_at hl 0 rfl) ?_
  refine va_alen (v := nI n0) hx hb hK hP 0 2 rfl rfl rfl dJ21_copyOf_4_2 ?_
  refine N_icmp_ne (tgt := 14) hx hb dJ21_copyOf_4_3 (by decide) (by omega) (by omega) (fun c_3 => ?_) (fun c_3 => ?_)
  · skip
    refine lv_iload_n hx hb dJ21_copyOf_4_14 rfl (lv_at hl 1 rfl) ?_
    refine A_newa (atype := .long) (ty := .long) (a9 := (n1, .inr (.inl (fun _ => 0)))) (t0 := 2) hx hb hts q419 rfl (fun _ h_ => by cases h_) hK hP hD hS hA rfl (fun _ => rfl) (by omega) (by first | exact Nat.le_of_ble_eq_true rfl | (simp only [componentBytes]; omega)) (by exact (by first | exact Nat.le_of_ble_eq_true rfl | omega | (simp only [rm_J21_copyOf_4]; omega))) (by exact (by first | exact Nat.le_of_ble_eq_true rfl | omega | (simp only [rm_J21_copyOf_4]; omega))) dJ21_copyOf_4_15 (fun q1 H hP hD hS => ?_)
    have hP : va_P G.1 vwCl [aJ G a n0 w, aJ G q1 n1 (fun _ => 0)] _ := hP
    have hD : va_D A [aJ G a n0 w, aJ G q1 n1 (fun _ => 0)] := hD
    refine lv_astore_n (lv' := [(2, .ref q1), (0, .ref a), (1, .int (nI n1))]) hx hb dJ21_copyOf_4_17 rfl hl (by decide) rfl (fun ls hl => ?_)
    refine lv_aload_n hx hb dJ21_copyOf_4_18 rfl (lv_at hl 1 rfl) ?_
    refine lv_iconst (v := nI 0) hx hb dJ21_copyOf_4_19 (by decide) ?_
    refine lv_aload_n hx hb dJ21_copyOf_4_20 rfl (lv_at hl 0 rfl) ?_
    refine lv_iconst (v := nI 0) hx hb dJ21_copyOf_4_21 (by decide) ?_
    refine lv_aload_n hx hb dJ21_copyOf_4_22 rfl (lv_at hl 1 rfl) ?_
    refine va_alen (v := nI n0) hx hb hK hP 0 2 rfl rfl rfl dJ21_copyOf_4_23 ?_
    refine lv_iload_n hx hb dJ21_copyOf_4_24 rfl (lv_at hl 2 rfl) ?_
    refine M_min hx hb (hml.trans hl.1.symm) hown hts q626 q627 q137 q628 (Nat.le_of_ble_eq_true rfl) (Nat.le_of_ble_eq_true rfl) (by first | exact Nat.le_of_ble_eq_true rfl | omega | (simp only [rm_J21_copyOf_4]; omega)) (by first | exact Nat.le_of_ble_eq_true rfl | omega | (simp only [rm_J21_copyOf_4]; omega)) dJ21_copyOf_4_25 ?_
    refine W.eq (g2 := F0 m 28 ls [.int (nI n0), .int (nI 0), .ref q1, .int (nI 0), .ref a]) (by rw [min_n (by omega) (by omega)]) ?_
    refine N_copyl (ws' := [aJ G a n0 w, aJ G q1 n1 (va_cpy w (fun _ => 0) 0 0 n0)]) hx hb (hml.trans hl.1.symm) hown hts q629 q560 q559 q135 hK hP hD hS 0 1 2 rfl rfl rfl (by omega) (by omega) (by omega) (by omega) (Nat.le_of_ble_eq_true rfl) (Nat.le_of_ble_eq_true rfl) dJ21_copyOf_4_28 rfl (fun H locs hP hD hS => ?_)
    refine lv_aload_n hx hb dJ21_copyOf_4_31 rfl (lv_at hl 0 rfl) ?_
    rw [hQQ]
    exact rt_r hx hb hr hlk (by first | exact Or.inl ⟨_, rfl⟩ | exact Or.inr ⟨_, rfl⟩) q1 dJ21_copyOf_4_32 hP hD hS (by first | exact Nat.le_of_ble_eq_true rfl | (simp only [rm_J21_copyOf_4]; omega) | omega) (by first | exact Nat.le_of_ble_eq_true rfl | (simp only [rm_J21_copyOf_4]; omega) | omega) (by rfl) trivial
  · skip
    exfalso; omega
def rm_J6_wordIndex : Room := ({ frames := 0, cells := 0, slots := 0, locals := 0 } : Room)
set_option maxHeartbeats 400000 in
set_option maxRecDepth 100000 in
theorem t_J6_wordIndex (l : Launch) (G : GG) (b0 sz : Nat) (i : Nat) (hi : i < 100000) : CT l yJ6_wordIndex cJ6_wordIndex 1 (some FieldType.int) (rm_J6_wordIndex) G b0 [.int (nI i)] [] sz (Ri G (fun (r_ : Int32) (_ : Unit) => r_ = nI (i / 64)) (fun (_ : Unit) => [])) := by
  refine CT.go (by decide) (Nat.le_of_ble_eq_true rfl) (fun p e s m below meth c A ls AR QQ hx hb hr hlk hml hown hnm hts hE hA hAb hsz hP hD hS hl hQQ => ?_)
  have hK := hE.1
  have hown : s.vm.findClass RJ6 = some m.cls := hown
  have hl : lv_has ls 1 [(0, .int (nI i))] := hl
  clear hsz
  refine lv_iload_n hx hb dJ6_wordIndex_0 rfl (lv_at hl 0 rfl) ?_
  refine lv_bipush (v := nI 6) hx hb dJ6_wordIndex_1 (by decide) ?_
  refine N_ishr hx hb dJ6_wordIndex_3 (by omega) (by omega) ?_
  rw [hQQ]
  exact rt_i hx hb hr hlk  (()) dJ6_wordIndex_4 hP hD hS (by first | exact Nat.le_of_ble_eq_true rfl | (simp only [rm_J6_wordIndex]; omega) | omega) (by first | exact Nat.le_of_ble_eq_true rfl | (simp only [rm_J6_wordIndex]; omega) | omega) (by rfl)
def rm_J6_initWords : Room := ({ frames := 1, cells := 1, slots := 1, locals := 30 } : Room)
set_option maxHeartbeats 400000 in
set_option maxRecDepth 100000 in
theorem t_J6_initWords (l : Launch) (G : GG) (b0 sz : Nat) (h wu : Nat) (st : Bool) : CT l yJ6_initWords cJ6_initWords 2 none (rm_J6_initWords) G b0 [.ref h, .int (nI 64)] [oX h 10 [.null, .int (nI wu), .int (bI st)]] sz (Rv G (fun (u : Nat) => True) (fun (u : Nat) => [oX h 10 [.ref u, .int (nI wu), .int (bI st)], aJ G u 1 (fun _ => 0)])) := by
  refine CT.go (by decide) (Nat.le_of_ble_eq_true rfl) (fun p e s m below meth c A ls AR QQ hx hb hr hlk hml hown hnm hts hE hA hAb hsz hP hD hS hl hQQ => ?_)
  have hK := hE.1
  have hown : s.vm.findClass RJ6 = some m.cls := hown
  have hl : lv_has ls 2 [(0, .ref h), (1, .int (nI 64))] := hl
  clear hsz
  refine lv_aload_n hx hb dJ6_initWords_0 rfl (lv_at hl 0 rfl) ?_
  refine lv_iload_n hx hb dJ6_initWords_1 rfl (lv_at hl 1 rfl) ?_
  refine lv_iconst (v := nI 1) hx hb dJ6_initWords_2 (by decide) ?_
  refine N_isub hx hb dJ6_initWords_3 (by omega) ?_
  refine fin_i (ws' := (fun (_ : Unit) => [oX h 10 [.null, .int (nI wu), .int (bI st)]])) hA hS hP hD [] rfl [(false, 0)] (fun _ => rfl) (by decide) (run_S (As := [.int (nI 63)]) (rest := [.ref h]) (n9 := 1) hx hb hml hown hts hE hAb hl.1 hS hP hD [] rfl (by decide) (t_J6_wordIndex l G b0 _ 63 (by omega)) (lw_S q406 q407 q121 q408) ⟨by decide, by decide, by decide +kernel⟩ ⟨Nat.le_of_ble_eq_true rfl, Nat.le_of_ble_eq_true rfl⟩ ⟨by first | exact Nat.le_of_ble_eq_true rfl | (simp only [rm_J6_initWords, rm_J6_wordIndex]; omega), by first | exact Nat.le_of_ble_eq_true rfl | (simp only [rm_J6_initWords, rm_J6_wordIndex]; omega)⟩ dJ6_initWords_4 (Nat.le_of_ble_eq_true rfl) rfl rfl) (fun r_1 u_1 H locs h_1 hP hD hS => ?_)
  have hP : va_P G.1 vwCl [oX h 10 [.null, .int (nI wu), .int (bI st)]] _ := hP
  have hD : va_D A [oX h 10 [.null, .int (nI wu), .int (bI st)]] := hD
  have h_1 : r_1 = (nI (63 / 64)) := h_1
  rw [h_1]
  refine lv_iconst (v := nI 1) hx hb dJ6_initWords_7 (by decide) ?_
  refine N_iadd hx hb dJ6_initWords_8 ?_
  refine A_newa (atype := .long) (ty := .long) (a9 := (((63 / 64) + 1), .inr (.inl (fun _ => 0)))) (t0 := 2) hx hb hts q419 rfl (fun _ h_ => by cases h_) hK hP hD hS hA rfl (fun _ => rfl) (by omega) (by first | exact Nat.le_of_ble_eq_true rfl | (simp only [componentBytes]; omega)) (by exact (by first | exact Nat.le_of_ble_eq_true rfl | omega | (simp only [rm_J6_initWords]; omega))) (by exact (by first | exact Nat.le_of_ble_eq_true rfl | omega | (simp only [rm_J6_initWords]; omega))) dJ6_initWords_9 (fun q2 H hP hD hS => ?_)
  have hP : va_P G.1 vwCl [oX h 10 [.null, .int (nI wu), .int (bI st)], aJ G q2 ((63 / 64) + 1) (fun _ => 0)] _ := hP
  have hD : va_D A [oX h 10 [.null, .int (nI wu), .int (bI st)], aJ G q2 ((63 / 64) + 1) (fun _ => 0)] := hD
  refine va_put (D := G.1) (ci := 10) (v := .ref q2) (ty := (.array .long)) (C := RJ6) (T := TJ6) (N := 3) hx hb hts in_J6 tyJ6 tyJ6_ok nmJ6 hown hK hP hD hS 0 rfl rfl 0 (by decide) (hts _ q409) (fun _ h9 => h9) rfl (by decide +kernel) rfl rfl (Nat.le_of_ble_eq_true rfl) dJ6_initWords_11 (fun H locs hP hD hS => ?_)
  have hP : va_P G.1 vwCl [oX h 10 [.ref q2, .int (nI wu), .int (bI st)], aJ G q2 ((63 / 64) + 1) (fun _ => 0)] _ := hP
  have hD : va_D A [oX h 10 [.ref q2, .int (nI wu), .int (bI st)], aJ G q2 ((63 / 64) + 1) (fun _ => 0)] := hD
  have hP : va_P G.1 vwCl [oX h 10 [.ref q2, .int (nI wu), .int (bI st)], aJ G q2 1 (fun _ => 0)] _ := hP
  have hD : va_D A [oX h 10 [.ref q2, .int (nI wu), .int (bI st)], aJ G q2 1 (fun _ => 0)] := hD
  rw [hQQ]
  exact rt_v hx hb hr hlk q2 dJ6_initWords_14 hP hD hS (by first | exact Nat.le_of_ble_eq_true rfl | (simp only [rm_J6_initWords]; omega) | omega) (by first | exact Nat.le_of_ble_eq_true rfl | (simp only [rm_J6_initWords]; omega) | omega) trivial
def rm_J6_init : Room := ({ frames := 2, cells := 1, slots := 1, locals := 60 } : Room)
set_option maxHeartbeats 400000 in
set_option maxRecDepth 100000 in
theorem t_J6_init (l : Launch) (G : GG) (b0 sz : Nat) (h : Nat) : CT l yJ6_init cJ6_init 1 none (rm_J6_init) G b0 [.ref h] [oX h 10 [.null, .int (nI 0), .int (bI false)]] sz (Rv G (fun (u : Nat) => True) (fun (u : Nat) => [oX h 10 [.ref u, .int (nI 0), .int (bI false)], aJ G u 1 (fun _ => 0)])) := by
  refine CT.go (by decide) (Nat.le_of_ble_eq_true rfl) (fun p e s m below meth c A ls AR QQ hx hb hr hlk hml hown hnm hts hE hA hAb hsz hP hD hS hl hQQ => ?_)
  have hK := hE.1
  have hown : s.vm.findClass RJ6 = some m.cls := hown
  have hl : lv_has ls 1 [(0, .ref h)] := hl
  clear hsz
  refine lv_aload_n hx hb dJ6_init_0 rfl (lv_at hl 0 rfl) ?_
  refine O_init hx hb (hml.trans hl.1.symm) hown hts q401 q150 q151 dJ6_init_1 (Nat.le_of_ble_eq_true rfl) (Nat.le_of_ble_eq_true rfl) ?_
  refine lv_aload_n hx hb dJ6_init_4 rfl (lv_at hl 0 rfl) ?_
  refine lv_iconst (v := nI 0) hx hb dJ6_init_5 (by decide) ?_
  refine va_put (D := G.1) (ci := 10) (v := .int (nI 0)) (ty := .int) (C := RJ6) (T := TJ6) (N := 3) hx hb hts in_J6 tyJ6 tyJ6_ok nmJ6 hown hK hP hD hS 0 rfl rfl 1 (by decide) (hts _ q410) (fun _ h9 => h9) rfl (by decide +kernel) rfl rfl (Nat.le_of_ble_eq_true rfl) dJ6_init_6 (fun H locs hP hD hS => ?_)
  have hP : va_P G.1 vwCl [oX h 10 [.null, .int (nI 0), .int (bI false)]] _ := hP
  have hD : va_D A [oX h 10 [.null, .int (nI 0), .int (bI false)]] := hD
  refine lv_aload_n hx hb dJ6_init_9 rfl (lv_at hl 0 rfl) ?_
  refine lv_iconst (v := nI 0) hx hb dJ6_init_10 (by decide) ?_
  refine va_put (D := G.1) (ci := 10) (v := .int (bI false)) (ty := .boolean) (C := RJ6) (T := TJ6) (N := 3) hx hb hts in_J6 tyJ6 tyJ6_ok nmJ6 hown hK hP hD hS 0 rfl rfl 2 (by decide) (hts _ q411) (fun _ h9 => h9) rfl (by decide +kernel) (bI_nar _) rfl (Nat.le_of_ble_eq_true rfl) dJ6_init_11 (fun H locs hP hD hS => ?_)
  have hP : va_P G.1 vwCl [oX h 10 [.null, .int (nI 0), .int (bI false)]] _ := hP
  have hD : va_D A [oX h 10 [.null, .int (nI 0), .int (bI false)]] := hD
  refine lv_aload_n hx hb dJ6_init_14 rfl (lv_at hl 0 rfl) ?_
  refine lv_bipush (v := nI 64) hx hb dJ6_init_15 (by decide) ?_
  refine fin_v (ws' := (fun (u_1 : Nat) => [oX h 10 [.ref u_1, .int (nI 0), .int (bI false)], aJ G u_1 1 (fun _ => 0)])) hA hS hP hD [0] rfl [(true, 0), (true, 1)] (fun _ => rfl) (by decide) (run_V (As := [.int (nI 64)]) (rest := []) (n9 := 1) hx hb hml hown hts hE hAb hl.1 hS hP hD [0] rfl (by decide) (t_J6_initWords l G b0 _ h 0 false ) (lw_V q402 q404 qs3 q121 q405) 0 rfl rfl ⟨rfl, by decide, by decide, by decide +kernel⟩ ⟨Nat.le_of_ble_eq_true rfl, Nat.le_of_ble_eq_true rfl⟩ ⟨by first | exact Nat.le_of_ble_eq_true rfl | (simp only [rm_J6_init, rm_J6_initWords]; omega), by first | exact Nat.le_of_ble_eq_true rfl | (simp only [rm_J6_init, rm_J6_initWords]; omega)⟩ dJ6_init_17 (Nat.le_of_ble_eq_true rfl) rfl rfl) (fun u_1 H locs h_1 hP hD hS => ?_)
  have hP : va_P G.1 vwCl [oX h 10 [.ref u_1, .int (nI 0), .int (bI false)], aJ G u_1 1 (fun _ => 0)] _ := hP
  have hD : va_D A [oX h 10 [.ref u_1, .int (nI 0), .int (bI false)], aJ G u_1 1 (fun _ => 0)] := hD
  refine lv_aload_n hx hb dJ6_init_20 rfl (lv_at hl 0 rfl) ?_
  refine lv_iconst (v := nI 0) hx hb dJ6_init_21 (by decide) ?_
  refine va_put (D := G.1) (ci := 10) (v := .int (bI false)) (ty := .boolean) (C := RJ6) (T := TJ6) (N := 3) hx hb hts in_J6 tyJ6 tyJ6_ok nmJ6 hown hK hP hD hS 0 rfl rfl 2 (by decide) (hts _ q411) (fun _ h9 => h9) rfl (by decide +kernel) (bI_nar _) rfl (Nat.le_of_ble_eq_true rfl) dJ6_init_22 (fun H locs hP hD hS => ?_)
  have hP : va_P G.1 vwCl [oX h 10 [.ref u_1, .int (nI 0), .int (bI false)], aJ G u_1 1 (fun _ => 0)] _ := hP
  have hD : va_D A [oX h 10 [.ref u_1, .int (nI 0), .int (bI false)], aJ G u_1 1 (fun _ => 0)] := hD
  rw [hQQ]
  exact rt_v hx hb hr hlk u_1 dJ6_init_25 hP hD hS (by first | exact Nat.le_of_ble_eq_true rfl | (simp only [rm_J6_init]; omega) | omega) (by first | exact Nat.le_of_ble_eq_true rfl | (simp only [rm_J6_init]; omega) | omega) trivial
def rm_J6_clear : Room := ({ frames := 0, cells := 0, slots := 0, locals := 0 } : Room)
set_option maxHeartbeats 400000 in
set_option maxRecDepth 100000 in
theorem t_J6_clear (l : Launch) (G : GG) (b0 sz : Nat) (h a n wu : Nat) (w : Nat → Int64) (hwn : wu ≤ n) (hn : n ≤ 1000) : CT l yJ6_clear cJ6_clear 1 none (rm_J6_clear) G b0 [.ref h] [oX h 10 [.ref a, .int (nI wu), .int (bI false)], aJ G a n w] sz (Rv G (fun (_ : Unit) => True) (fun (_ : Unit) => [oX h 10 [.ref a, .int (nI 0), .int (bI false)], aJ G a n (clJ w wu 0)])) := by
  refine CT.go (by decide) (Nat.le_of_ble_eq_true rfl) (fun p e s m below meth c A ls AR QQ hx hb hr hlk hml hown hnm hts hE hA hAb hsz hP hD hS hl hQQ => ?_)
  have hK := hE.1
  have hown : s.vm.findClass RJ6 = some m.cls := hown
  have hl : lv_has ls 1 [(0, .ref h)] := hl
  clear hsz
  have lp_0 : ∀ (n_0 : Nat) (k : Nat), (k ≤ wu) → (k) < n_0 → ∀ (H : Heap) (locs : List Loc) (ls : Array Slot), va_P G.1 vwCl [oX h 10 [.ref a, .int (nI k), .int (bI false)], aJ G a n (clJ w wu k)] H → va_D A [oX h 10 [.ref a, .int (nI k), .int (bI false)], aJ G a n (clJ w wu k)] → va_S A s.heap H locs → lv_has ls 1 [(0, .ref h)] → W p l e (rm_J6_clear) s m AR below meth c H locs 0 0 QQ (F0 m 0 ls []) := by
    intro n_0
    induction n_0 with
    | zero => intro k hk hn_; exact absurd hn_ (Nat.not_lt_zero _)
    | succ n_0 ih_0 =>
      intro k hk hn_0 H locs ls hP hD hS hl
      refine lv_aload_n hx hb dJ6_clear_0 rfl (lv_at hl 0 rfl) ?_
      refine va_get (D := G.1) (ci := 10) (v := .int (nI k)) (C := RJ6) (T := TJ6) (N := 3) hx hb hts in_J6 hown hK hP 0 rfl rfl 1 (by decide) (hts _ q410) (fun _ h9 => h9) rfl dJ6_clear_1 ?_
      refine N_if_le (tgt := 27) hx hb dJ6_clear_4 (by decide) (by omega) (fun c_4 => ?_) (fun c_4 => ?_)
      · skip
        obtain rfl : k = 0 := by omega
        rw [hQQ]
        exact rt_v hx hb hr hlk (()) dJ6_clear_27 hP hD hS (by first | exact Nat.le_of_ble_eq_true rfl | (simp only [rm_J6_clear]; omega) | omega) (by first | exact Nat.le_of_ble_eq_true rfl | (simp only [rm_J6_clear]; omega) | omega) trivial
      · skip
        refine lv_aload_n hx hb dJ6_clear_7 rfl (lv_at hl 0 rfl) ?_
        refine va_get (D := G.1) (ci := 10) (v := .ref a) (C := RJ6) (T := TJ6) (N := 3) hx hb hts in_J6 hown hK hP 0 rfl rfl 0 (by decide) (hts _ q409) (fun _ h9 => h9) rfl dJ6_clear_8 ?_
        refine lv_aload_n hx hb dJ6_clear_11 rfl (lv_at hl 0 rfl) ?_
        refine lv_dup hx hb dJ6_clear_12 rfl ?_
        refine va_get (D := G.1) (ci := 10) (v := .int (nI k)) (C := RJ6) (T := TJ6) (N := 3) hx hb hts in_J6 hown hK hP 0 rfl rfl 1 (by decide) (hts _ q410) (fun _ h9 => h9) rfl dJ6_clear_13 ?_
        refine lv_iconst (v := nI 1) hx hb dJ6_clear_16 (by decide) ?_
        refine N_isub hx hb dJ6_clear_17 (by omega) ?_
        refine lv_dup_x1 hx hb dJ6_clear_18 rfl rfl ?_
        refine va_put (D := G.1) (ci := 10) (v := .int (nI (k - 1))) (ty := .int) (C := RJ6) (T := TJ6) (N := 3) hx hb hts in_J6 tyJ6 tyJ6_ok nmJ6 hown hK hP hD hS 0 rfl rfl 1 (by decide) (hts _ q410) (fun _ h9 => h9) rfl (by decide +kernel) rfl rfl (Nat.le_of_ble_eq_true rfl) dJ6_clear_19 (fun H locs hP hD hS => ?_)
        have hP : va_P G.1 vwCl [oX h 10 [.ref a, .int (nI (k - 1)), .int (bI false)], aJ G a n (clJ w wu k)] _ := hP
        have hD : va_D A [oX h 10 [.ref a, .int (nI (k - 1)), .int (bI false)], aJ G a n (clJ w wu k)] := hD
        refine lv_lconst (v := 0) hx hb dJ6_clear_22 (by decide) ?_
        refine N_last (ws' := [oX h 10 [.ref a, .int (nI (k - 1)), .int (bI false)], aJ G a n (vp_updL (clJ w wu k) (k - 1) 0)]) hx hb dJ6_clear_23 hK hP hD hS 1 2 rfl rfl (by omega) (by omega) rfl (fun H locs hP hD hS => ?_)
        refine lv_goto (tgt := 0) hx hb dJ6_clear_24 (by decide) ?_
        have e_1 : (vp_updL (clJ w wu k) (k - 1) 0) = (clJ w wu (k - 1)) := by exact clJ_s (by omega) (by omega)
        rw [e_1] at hP hD
        have hP : va_P G.1 vwCl [oX h 10 [.ref a, .int (nI (k - 1)), .int (bI false)], aJ G a n (clJ w wu (k - 1))] _ := hP
        have hD : va_D A [oX h 10 [.ref a, .int (nI (k - 1)), .int (bI false)], aJ G a n (clJ w wu (k - 1))] := hD
        have hl : lv_has ls 1 [(0, .ref h)] := lv_sub hl [0] rfl
        exact ih_0 (k - 1) (by omega) (by omega) _ _ _ hP hD hS hl
  have e_2 : (w) = (clJ w wu wu) := by funext j; unfold clJ; rw [if_neg (by omega)]
  rw [e_2] at hP hD
  have hP : va_P G.1 vwCl [oX h 10 [.ref a, .int (nI wu), .int (bI false)], aJ G a n (clJ w wu wu)] _ := hP
  have hD : va_D A [oX h 10 [.ref a, .int (nI wu), .int (bI false)], aJ G a n (clJ w wu wu)] := hD
  have hl : lv_has ls 1 [(0, .ref h)] := lv_sub hl [0] rfl
  exact lp_0 _ wu (by omega) (Nat.lt_succ_self _) _ _ _ hP hD hS hl
