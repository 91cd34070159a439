/-! ===== the law's helpers: a call that may fail ===== -/
abbrev CTW (l : Launch) (y : MethodName) (cc : ByteArray) (mL : Nat) (rt : Option FieldType) (hh : List (Nat × Nat × Nat × Nat)) (rm : Room) (G : GG) (b0 : Nat) (av : List Value) (w : va_W) (sz : Nat) (Qc : Qt) : Prop :=
  Met l y (wsW_ y cc mL rt hh) rm (va_Pc av (Pr G b0 w sz)) (Qc (va_A w sz)) rm.cells rm.slots (va_A w sz)
theorem pass0 {P : ExceptionTableEntry → Prop} : ∀ z ∈ ([] : List ExceptionTableEntry), P z := fun z hz => by cases hz
theorem pass1 {P : ExceptionTableEntry → Prop} {a : ExceptionTableEntry} (h : P a) : ∀ z ∈ [a], P z := fun z hz => by
  rcases List.mem_cons.mp hz with rfl | hz
  · exact h
  · cases hz
theorem pass2 {P : ExceptionTableEntry → Prop} {a b : ExceptionTableEntry} (h : P a) (h2 : P b) : ∀ z ∈ [a, b], P z := fun z hz => by
  rcases List.mem_cons.mp hz with rfl | hz
  · exact h
  · exact pass1 h2 z hz
theorem CTW.go {l : Launch} {y : MethodName} {cc : ByteArray} {mL : Nat} {rt : Option FieldType} {hh : List (Nat × Nat × Nat × Nat)} {rm : Room} {G : GG} {b0 : Nat} {av : List Value} {w : va_W} {sz : Nat} {Qc : Qt} (hy : plainName y.cls = true) (hmL : (lg_sl av).length ≤ mL)
    (body : ∀ (p : Program) (e : Jvm.Env) (s : State) (m : MethodId) (below : List Frame) (meth : Method) (c : Code) (A : Nat → Prop) (ls : Array Slot) (AR : Array Value) (QQ : State → Prop), p.tables.exec = Jvm.exec → c.code = cc → meth.sig.returnType = rt → meth.locks = false → c.maxLocals = mL → s.vm.findClass y.cls = some m.cls → meth.name = y.name → (∀ w ∈ lw_all, w.before AR s = true) → Env G b0 s → (∀ q, s.heap.size ≤ q → A q) → (∀ q, A q → b0 ≤ q) → s.heap.size = sz → va_P G.1 vwCl w s.heap → va_D A w → va_S A s.heap s.heap [] → lv_has ls mL (lv_args 0 av) → c.exceptionTable.toList = tableOf hh → QQ = vx_MQ below (Qc A) (fun _ _ _ => False) AR s rm.cells rm.slots A →
      W p l e rm s m AR below meth c s.heap [] 0 0 QQ (F0 m 0 ls [])) : CTW l y cc mL rt hh rm G b0 av w sz Qc := by
  have K : vx_Met l y (wsW_ y cc mL rt hh) rm (va_Pc av (Pr G b0 w sz)) (Qc (va_A w sz)) (fun _ _ _ => False) rm.cells rm.slots (va_A w sz) := by
    refine vx_ofWH (cc := cc) (maxL := mL) (ret := rt) (hh := hh) hy rfl ?_
    intro p e s m args below meth c s₁ B hml hv
    obtain ⟨rfl, hsz, hP, hD0, hE⟩ := hv
    have hts := atoms_spec (ws := wsW_ y cc mL rt hh) B.pre
    have htab := vx_table (x := y) (y := y) (bytes := cc) (maxL' := mL) (ret' := rt) (hh := hh) B (hts _ List.mem_cons_self)
    have hl := lv_entry av (n := mL) hmL
    rw [lg_entry_eq]
    refine body p e s m below meth c _ _ _ _ B.exec B.bytes B.returns B.notSynchronized hml (findClass_of_methodNamed B.named) (name_of_methodNamed B.named B.method).1 (fun w h => hts w (List.mem_cons_of_mem _ h)) hE (fun q h => Or.inr (by rw [← hsz]; exact h)) (fun q h => ?_) hsz hP hD0.self va_S.rf hl htab rfl
    rcases h with ⟨k, e', hk⟩ | h
    · exact hD0.2 k (q, e') hk
    · exact Nat.le_trans hE.2.1 (by rw [hsz]; exact h)
  intro p e ha hc hk s m args below hf happ hP hK
  obtain ⟨n, o, g1, g2, g3, hq⟩ := K p e ha hc hk s m args below hf happ hP hK
  refine ⟨n, o, g1, g2, g3, ?_⟩
  rcases hq with h | ⟨q, _, E, ce, L, h, _⟩
  · exact h
  · exact h.elim
section CLW
variable {p : Program} {l : Launch} {e : Jvm.Env} {R : Room} {s : State} {m : MethodId} {args : Array Value} {below : List Frame} {meth : Method} {c : Code} {H : Heap} {locs : List Loc} {cells slots : Nat} {Q : State → Prop}
variable {cc : ByteArray} {pc : Nat} {ls : Array Slot} {rest : List Value} {A : Nat → Prop} {G : GG} {b0 : Nat}
variable {y : MethodName} {bytes : ByteArray} {maxL nL index : Nat} {rt : Option FieldType} {rm : Room} {own C host : String} {b : Nat} {As : List Value} {wc ws : va_W} {Qc : Qt} {n9 : Nat} {hh : List (Nat × Nat × Nat × Nat)}
theorem run_SW (hx : p.tables.exec = Jvm.exec) (hb : c.code = cc) (hml : c.maxLocals = nL) (hown : s.vm.findClass own = some m.cls) (hts : ∀ w ∈ lw_all, w.before args s = true) (hE : Env G b0 s) (hAb : ∀ q, A q → b0 ≤ q) (hls : ls.size = nL) (hS : va_S A s.heap H locs) (hP : va_P G.1 vwCl ws H) (hD : va_D A ws)
    (isC : List Nat) (hC : isC.map (fun i => ws[i]?) = wc.map some) (hn : va_nd isC = true) (hM : CTW l y bytes maxL rt hh rm G b0 As wc H.size Qc) (hg : GoodIn lw_all (va_wsS own index y (wsW_ y bytes maxL rt hh)))
    (hd : y.cls ≠ "java/lang/invoke/MethodHandle" ∧ y.cls ≠ "java/lang/invoke/VarHandle" ∧ (parseMethodDescriptor y.desc).map (fun d => d.parameters.length) = some n9) (hR : rm.frames + 1 ≤ R.frames ∧ 8 + (maxL + 11) + rm.locals ≤ R.locals)
    (hcs : cells + rm.cells ≤ R.cells ∧ slots + rm.slots ≤ R.slots) (hdg : decode cc pc = .ok (.invokestatic index, 3)) (h8 : (rest.map fun v => v.category).sum ≤ 8) {st0 : List Value} (hn9 : As.length = n9) (hst : st0 = As.reverse ++ rest) :
    va_Run p l e R s m args below meth c H locs cells slots rm.cells rm.slots (F0 m pc ls st0) rest (Qc (va_A wc H.size) As.toArray) (va_A wc H.size) := by
  subst hst
  refine vx_runSW (As := As) (rest := rest) ⟨hx, hb, hml, hown, hts⟩ hM (vx_cwSW n9 hts hg rfl rfl rfl hd hR) ⟨Pr.blind, preOf isC hC hn hE hAb hS hP hD _⟩ rfl hn9 hls rfl (lv_room h8) hdg hcs
end CLW
def rm_X0_stoppedPart_t : Room := ({ frames := 13, cells := 0, slots := 0, locals := 440 } : Room)
set_option maxHeartbeats 400000 in
set_option maxRecDepth 100000 in
theorem t_X0_stoppedPart_t (l : Launch) (G : GG) (b0 sz : Nat) (h : Nat) (ad : Nat → Nat) (sn : Value) (hsh : Int64) (L : Nat) (stp why : Int32) (ou : Nat) (ov : Nat → Int64) (hs : ¬ stp = (-1)) : CTW l yX0_stoppedPart cX0_stoppedPart 3 (some FieldType.int) [(0, 8, 11, 20)] (rm_X0_stoppedPart_t) G b0 [.ref h, .ref ou] [oC h ad sn hsh, oX (ad 1) 1 [.ref (ad 11), .int (nI L), .int stp, .int why], aJ G ou 1 ov] sz (Ri G (fun (r_ : Int32) (_ : Unit) => r_ = nI 0) (fun (_ : Unit) => [oC h ad sn hsh, oX (ad 1) 1 [.ref (ad 11), .int (nI L), .int stp, .int why], aJ G ou 1 (vp_updL ov 0 ((stp).toInt64))])) := by
  refine CTW.go (by decide) (Nat.le_of_ble_eq_true rfl) (fun p e s m below meth c A ls AR QQ hx hb hr hlk hml hown hnm hts hE hA hAb hsz hP hD hS hl htab hQQ => ?_)
  have hK := hE.1
  have hown : s.vm.findClass RX0 = some m.cls := hown
  have hl : lv_has ls 3 [(0, .ref h), (1, .ref ou)] := hl
  clear hsz
  refine lv_aload_n hx hb dX0_stoppedPart_0 rfl (lv_at hl 1 rfl) ?_
  refine lv_iconst (v := nI 0) hx hb dX0_stoppedPart_1 (by decide) ?_
  refine lv_aload_n hx hb dX0_stoppedPart_2 rfl (lv_at hl 0 rfl) ?_
  refine fin_i (ws' := (fun (_ : Unit) => [oC h ad sn hsh, oX (ad 1) 1 [.ref (ad 11), .int (nI L), .int stp, .int why], aJ G ou 1 ov])) hA hS hP hD [0, 1] rfl [(true, 0), (true, 1), (false, 2)] (fun _ => rfl) (by decide) (run_V (As := []) (rest := [.int (nI 0), .ref ou]) (n9 := 0) hx hb hml hown hts hE hAb hl.1 hS hP hD [0, 1] rfl (by decide) (t_X1_stoppedPart_t l G b0 _ h ad sn hsh L stp why (by exact hs)) (lw_V q1490 q1491 q1492 q106 q1493) 0 rfl rfl ⟨rfl, by decide, by decide, by decide +kernel⟩ ⟨Nat.le_of_ble_eq_true rfl, Nat.le_of_ble_eq_true rfl⟩ ⟨by first | exact Nat.le_of_ble_eq_true rfl | (simp only [rm_X0_stoppedPart_t, rm_X1_stoppedPart_t]; omega), by first | exact Nat.le_of_ble_eq_true rfl | (simp only [rm_X0_stoppedPart_t, rm_X1_stoppedPart_t]; omega)⟩ dX0_stoppedPart_3 (Nat.le_of_ble_eq_true rfl) rfl rfl) (fun r_1 u_1 H locs h_1 hP hD hS => ?_)
  have hP : va_P G.1 vwCl [oC h ad sn hsh, oX (ad 1) 1 [.ref (ad 11), .int (nI L), .int stp, .int why], aJ G ou 1 ov] _ := hP
  have hD : va_D A [oC h ad sn hsh, oX (ad 1) 1 [.ref (ad 11), .int (nI L), .int stp, .int why], aJ G ou 1 ov] := hD
  have h_1 : r_1 = (stp) := h_1
  rw [h_1]
  refine lv_i2l (v := (stp).toInt64) hx hb dX0_stoppedPart_6 rfl ?_
  refine N_last (ws' := [oC h ad sn hsh, oX (ad 1) 1 [.ref (ad 11), .int (nI L), .int stp, .int why], aJ G ou 1 (vp_updL ov 0 ((stp).toInt64))]) hx hb dX0_stoppedPart_7 hK hP hD hS 2 2 rfl rfl (by omega) (by omega) rfl (fun H locs hP hD hS => ?_)
  refine lv_goto (tgt := 14) hx hb dX0_stoppedPart_8 (by decide) ?_
  refine lv_iconst (v := nI 0) hx hb dX0_stoppedPart_14 (by decide) ?_
  rw [hQQ]
  exact vx_ret (rt_i hx hb hr hlk  ((())) dX0_stoppedPart_15 hP hD hS (by first | exact Nat.le_of_ble_eq_true rfl | (simp only [rm_X0_stoppedPart_t, rm_X1_stoppedPart_t]; omega) | omega) (by first | exact Nat.le_of_ble_eq_true rfl | (simp only [rm_X0_stoppedPart_t, rm_X1_stoppedPart_t]; omega) | omega) (by rfl))
def rm_X0_whyStopped_t : Room := ({ frames := 13, cells := 0, slots := 0, locals := 440 } : Room)
set_option maxHeartbeats 400000 in
set_option maxRecDepth 100000 in
theorem t_X0_whyStopped_t (l : Launch) (G : GG) (b0 sz : Nat) (h : Nat) (ad : Nat → Nat) (sn : Value) (hsh : Int64) (L : Nat) (stp why : Int32) (ou : Nat) (ov : Nat → Int64) (hs : ¬ stp = (-1)) : CTW l yX0_whyStopped cX0_whyStopped 3 (some FieldType.int) [(0, 8, 11, 20)] (rm_X0_whyStopped_t) G b0 [.ref h, .ref ou] [oC h ad sn hsh, oX (ad 1) 1 [.ref (ad 11), .int (nI L), .int stp, .int why], aJ G ou 1 ov] sz (Ri G (fun (r_ : Int32) (_ : Unit) => r_ = nI 0) (fun (_ : Unit) => [oC h ad sn hsh, oX (ad 1) 1 [.ref (ad 11), .int (nI L), .int stp, .int why], aJ G ou 1 (vp_updL ov 0 ((why).toInt64))])) := by
  refine CTW.go (by decide) (Nat.le_of_ble_eq_true rfl) (fun p e s m below meth c A ls AR QQ hx hb hr hlk hml hown hnm hts hE hA hAb hsz hP hD hS hl htab hQQ => ?_)
  have hK := hE.1
  have hown : s.vm.findClass RX0 = some m.cls := hown
  have hl : lv_has ls 3 [(0, .ref h), (1, .ref ou)] := hl
  clear hsz
  refine lv_aload_n hx hb dX0_whyStopped_0 rfl (lv_at hl 1 rfl) ?_
  refine lv_iconst (v := nI 0) hx hb dX0_whyStopped_1 (by decide) ?_
  refine lv_aload_n hx hb dX0_whyStopped_2 rfl (lv_at hl 0 rfl) ?_
  refine fin_i (ws' := (fun (_ : Unit) => [oC h ad sn hsh, oX (ad 1) 1 [.ref (ad 11), .int (nI L), .int stp, .int why], aJ G ou 1 ov])) hA hS hP hD [0, 1] rfl [(true, 0), (true, 1), (false, 2)] (fun _ => rfl) (by decide) (run_V (As := []) (rest := [.int (nI 0), .ref ou]) (n9 := 0) hx hb hml hown hts hE hAb hl.1 hS hP hD [0, 1] rfl (by decide) (t_X1_whyStopped_t l G b0 _ h ad sn hsh L stp why (by exact hs)) (lw_V q1497 q1498 q1499 q106 q1500) 0 rfl rfl ⟨rfl, by decide, by decide, by decide +kernel⟩ ⟨Nat.le_of_ble_eq_true rfl, Nat.le_of_ble_eq_true rfl⟩ ⟨by first | exact Nat.le_of_ble_eq_true rfl | (simp only [rm_X0_whyStopped_t, rm_X1_whyStopped_t]; omega), by first | exact Nat.le_of_ble_eq_true rfl | (simp only [rm_X0_whyStopped_t, rm_X1_whyStopped_t]; omega)⟩ dX0_whyStopped_3 (Nat.le_of_ble_eq_true rfl) rfl rfl) (fun r_1 u_1 H locs h_1 hP hD hS => ?_)
  have hP : va_P G.1 vwCl [oC h ad sn hsh, oX (ad 1) 1 [.ref (ad 11), .int (nI L), .int stp, .int why], aJ G ou 1 ov] _ := hP
  have hD : va_D A [oC h ad sn hsh, oX (ad 1) 1 [.ref (ad 11), .int (nI L), .int stp, .int why], aJ G ou 1 ov] := hD
  have h_1 : r_1 = (why) := h_1
  rw [h_1]
  refine lv_i2l (v := (why).toInt64) hx hb dX0_whyStopped_6 rfl ?_
  refine N_last (ws' := [oC h ad sn hsh, oX (ad 1) 1 [.ref (ad 11), .int (nI L), .int stp, .int why], aJ G ou 1 (vp_updL ov 0 ((why).toInt64))]) hx hb dX0_whyStopped_7 hK hP hD hS 2 2 rfl rfl (by omega) (by omega) rfl (fun H locs hP hD hS => ?_)
  refine lv_goto (tgt := 14) hx hb dX0_whyStopped_8 (by decide) ?_
  refine lv_iconst (v := nI 0) hx hb dX0_whyStopped_14 (by decide) ?_
  rw [hQQ]
  exact vx_ret (rt_i hx hb hr hlk  ((())) dX0_whyStopped_15 hP hD hS (by first | exact Nat.le_of_ble_eq_true rfl | (simp only [rm_X0_whyStopped_t, rm_X1_whyStopped_t]; omega) | omega) (by first | exact Nat.le_of_ble_eq_true rfl | (simp only [rm_X0_whyStopped_t, rm_X1_whyStopped_t]; omega) | omega) (by rfl))
def rm_X0_append_t : Room := ({ frames := 13, cells := 0, slots := 0, locals := 441 } : Room)
set_option maxHeartbeats 400000 in
set_option maxRecDepth 100000 in
theorem t_X0_append_t (l : Launch) (G : GG) (b0 sz : Nat) (h : Nat) (ad : Nat → Nat) (sn : Value) (hsh : Int64) (cd len : Nat) (ml : Bool) (ch : Nat → Nat) (ou : Nat) (ov : Nat → Int64) (hcd : 33 ≤ cd ∧ cd ≤ 126) (hln : len < 60) : CTW l yX0_append cX0_append 4 (some FieldType.int) [(0, 9, 12, 15), (0, 9, 15, 20)] (rm_X0_append_t) G b0 [.ref h, .int (nI cd), .ref ou] [oC h ad sn hsh, oX (ad 10) 12 [.ref (ad 28), .int (nI 0), .int (bI ml), .int (nI len)], aB G (ad 28) 60 (nF ch), aJ G ou 1 ov] sz (Ri G (fun (r_ : Int32) (_ : Unit) => r_ = nI 0) (fun (_ : Unit) => [oC h ad sn hsh, oX (ad 10) 12 [.ref (ad 28), .int (nI 0), .int (bI ml), .int (nI (len + 1))], aB G (ad 28) 60 (nF (va_up ch len cd)), aJ G ou 1 (vp_updL ov 0 ((nI (len + 1)).toInt64))])) := by
  refine CTW.go (by decide) (Nat.le_of_ble_eq_true rfl) (fun p e s m below meth c A ls AR QQ hx hb hr hlk hml hown hnm hts hE hA hAb hsz hP hD hS hl htab hQQ => ?_)
  have hK := hE.1
  have hown : s.vm.findClass RX0 = some m.cls := hown
  have hl : lv_has ls 4 [(0, .ref h), (1, .int (nI cd)), (2, .ref ou)] := hl
  clear hsz
  refine lv_aload_n hx hb dX0_append_0 rfl (lv_at hl 2 rfl) ?_
  refine lv_iconst (v := nI 0) hx hb dX0_append_1 (by decide) ?_
  refine lv_aload_n hx hb dX0_append_2 rfl (lv_at hl 0 rfl) ?_
  refine lv_iload_n hx hb dX0_append_3 rfl (lv_at hl 1 rfl) ?_
  refine fin_i (ws' := (fun (_ : Unit) => [oC h ad sn hsh, oX (ad 10) 12 [.ref (ad 28), .int (nI 0), .int (bI ml), .int (nI (len + 1))], aB G (ad 28) 60 (nF (va_up ch len cd)), aJ G ou 1 ov])) hA hS hP hD [0, 1, 2] rfl [(true, 0), (true, 1), (true, 2), (false, 3)] (fun _ => rfl) (by decide) (run_V (As := [.int (nI cd)]) (rest := [.int (nI 0), .ref ou]) (n9 := 1) hx hb hml hown hts hE hAb hl.1 hS hP hD [0, 1, 2] rfl (by decide) (t_X1_append_t l G b0 _ h ad sn hsh cd len ml ch (by exact hcd) (by exact hln)) (lw_V q1451 q1452 q1453 q106 q1454) 0 rfl rfl ⟨rfl, by decide, by decide, by decide +kernel⟩ ⟨Nat.le_of_ble_eq_true rfl, Nat.le_of_ble_eq_true rfl⟩ ⟨by first | exact Nat.le_of_ble_eq_true rfl | (simp only [rm_X0_append_t, rm_X1_append_t]; omega), by first | exact Nat.le_of_ble_eq_true rfl | (simp only [rm_X0_append_t, rm_X1_append_t]; omega)⟩ dX0_append_4 (Nat.le_of_ble_eq_true rfl) rfl rfl) (fun r_1 u_1 H locs h_1 hP hD hS => ?_)
  have hP : va_P G.1 vwCl [oC h ad sn hsh, oX (ad 10) 12 [.ref (ad 28), .int (nI 0), .int (bI ml), .int (nI (len + 1))], aB G (ad 28) 60 (nF (va_up ch len cd)), aJ G ou 1 ov] _ := hP
  have hD : va_D A [oC h ad sn hsh, oX (ad 10) 12 [.ref (ad 28), .int (nI 0), .int (bI ml), .int (nI (len + 1))], aB G (ad 28) 60 (nF (va_up ch len cd)), aJ G ou 1 ov] := hD
  have h_1 : r_1 = (nI (len + 1)) := h_1
  rw [h_1]
  refine lv_i2l (v := (nI (len + 1)).toInt64) hx hb dX0_append_7 rfl ?_
  refine N_last (ws' := [oC h ad sn hsh, oX (ad 10) 12 [.ref (ad 28), .int (nI 0), .int (bI ml), .int (nI (len + 1))], aB G (ad 28) 60 (nF (va_up ch len cd)), aJ G ou 1 (vp_updL ov 0 ((nI (len + 1)).toInt64))]) hx hb dX0_append_8 hK hP hD hS 3 2 rfl rfl (by omega) (by omega) rfl (fun H locs hP hD hS => ?_)
  refine lv_goto (tgt := 18) hx hb dX0_append_9 (by decide) ?_
  refine lv_iconst (v := nI 0) hx hb dX0_append_18 (by decide) ?_
  rw [hQQ]
  exact vx_ret (rt_i hx hb hr hlk  ((())) dX0_append_19 hP hD hS (by first | exact Nat.le_of_ble_eq_true rfl | (simp only [rm_X0_append_t, rm_X1_append_t]; omega) | omega) (by first | exact Nat.le_of_ble_eq_true rfl | (simp only [rm_X0_append_t, rm_X1_append_t]; omega) | omega) (by rfl))
def rm_X0_shade_t : Room := ({ frames := 13, cells := 0, slots := 0, locals := 442 } : Room)
set_option maxHeartbeats 400000 in
set_option maxRecDepth 100000 in
theorem t_X0_shade_t (l : Launch) (G : GG) (b0 sz : Nat) (h : Nat) (ad : Nat → Nat) (sn : Value) (hsh : Int64) (L : Nat) (stp why : Int32) (st : Nat → Int32) (r c_ : Nat) (ou : Nat) (ov : Nat → Int64) (hr_ : r < 8) (hc_ : c_ < 8) : CTW l yX0_shade cX0_shade 5 (some FieldType.int) [(0, 10, 13, 13)] (rm_X0_shade_t) G b0 [.ref h, .int (nI r), .int (nI c_), .ref ou] [oC h ad sn hsh, oX (ad 1) 1 [.ref (ad 11), .int (nI L), .int stp, .int why], aI G (ad 11) 64 st, aJ G ou 1 ov] sz (Ri G (fun (r_ : Int32) (_ : Unit) => r_ = nI 0) (fun (_ : Unit) => [oC h ad sn hsh, oX (ad 1) 1 [.ref (ad 11), .int (nI L), .int stp, .int why], aI G (ad 11) 64 st, aJ G ou 1 (vp_updL ov 0 ((st (8 * r + c_)).toInt64))])) := by
  refine CTW.go (by decide) (Nat.le_of_ble_eq_true rfl) (fun p e s m below meth c A ls AR QQ hx hb hr hlk hml hown hnm hts hE hA hAb hsz hP hD hS hl htab hQQ => ?_)
  have hK := hE.1
  have hown : s.vm.findClass RX0 = some m.cls := hown
  have hl : lv_has ls 5 [(0, .ref h), (1, .int (nI r)), (2, .int (nI c_)), (3, .ref ou)] := hl
  clear hsz
  refine lv_aload_n hx hb dX0_shade_0 rfl (lv_at hl 3 rfl) ?_
  refine lv_iconst (v := nI 0) hx hb dX0_shade_1 (by decide) ?_
  refine lv_aload_n hx hb dX0_shade_2 rfl (lv_at hl 0 rfl) ?_
  refine lv_iload_n hx hb dX0_shade_3 rfl (lv_at hl 1 rfl) ?_
  refine lv_iload_n hx hb dX0_shade_4 rfl (lv_at hl 2 rfl) ?_
  refine fin_i (ws' := (fun (_ : Unit) => [oC h ad sn hsh, oX (ad 1) 1 [.ref (ad 11), .int (nI L), .int stp, .int why], aI G (ad 11) 64 st, aJ G ou 1 ov])) hA hS hP hD [0, 1, 2] rfl [(true, 0), (true, 1), (true, 2), (false, 3)] (fun _ => rfl) (by decide) (run_V (As := [.int (nI r), .int (nI c_)]) (rest := [.int (nI 0), .ref ou]) (n9 := 2) hx hb hml hown hts hE hAb hl.1 hS hP hD [0, 1, 2] rfl (by decide) (t_X1_shade_t l G b0 _ h ad sn hsh L stp why st r c_ (by exact hr_) (by exact hc_)) (lw_V q1522 q1523 q1524 q106 q1525) 0 rfl rfl ⟨rfl, by decide, by decide, by decide +kernel⟩ ⟨Nat.le_of_ble_eq_true rfl, Nat.le_of_ble_eq_true rfl⟩ ⟨by first | exact Nat.le_of_ble_eq_true rfl | (simp only [rm_X0_shade_t, rm_X1_shade_t]; omega), by first | exact Nat.le_of_ble_eq_true rfl | (simp only [rm_X0_shade_t, rm_X1_shade_t]; omega)⟩ dX0_shade_5 (Nat.le_of_ble_eq_true rfl) rfl rfl) (fun r_1 u_1 H locs h_1 hP hD hS => ?_)
  have hP : va_P G.1 vwCl [oC h ad sn hsh, oX (ad 1) 1 [.ref (ad 11), .int (nI L), .int stp, .int why], aI G (ad 11) 64 st, aJ G ou 1 ov] _ := hP
  have hD : va_D A [oC h ad sn hsh, oX (ad 1) 1 [.ref (ad 11), .int (nI L), .int stp, .int why], aI G (ad 11) 64 st, aJ G ou 1 ov] := hD
  have h_1 : r_1 = (st (8 * r + c_)) := h_1
  rw [h_1]
  refine lv_i2l (v := (st (8 * r + c_)).toInt64) hx hb dX0_shade_8 rfl ?_
  refine N_last (ws' := [oC h ad sn hsh, oX (ad 1) 1 [.ref (ad 11), .int (nI L), .int stp, .int why], aI G (ad 11) 64 st, aJ G ou 1 (vp_updL ov 0 ((st (8 * r + c_)).toInt64))]) hx hb dX0_shade_9 hK hP hD hS 3 2 rfl rfl (by omega) (by omega) rfl (fun H locs hP hD hS => ?_)
  refine lv_goto (tgt := 17) hx hb dX0_shade_10 (by decide) ?_
  refine lv_iconst (v := nI 0) hx hb dX0_shade_17 (by decide) ?_
  rw [hQQ]
  exact vx_ret (rt_i hx hb hr hlk  ((())) dX0_shade_18 hP hD hS (by first | exact Nat.le_of_ble_eq_true rfl | (simp only [rm_X0_shade_t, rm_X1_shade_t]; omega) | omega) (by first | exact Nat.le_of_ble_eq_true rfl | (simp only [rm_X0_shade_t, rm_X1_shade_t]; omega) | omega) (by rfl))
def rm_X0_part_t : Room := ({ frames := 13, cells := 0, slots := 0, locals := 443 } : Room)
set_option maxHeartbeats 400000 in
set_option maxRecDepth 100000 in
theorem t_X0_part_t (l : Launch) (G : GG) (b0 sz : Nat) (h : Nat) (ad : Nat → Nat) (sn : Value) (hsh : Int64) (L : Nat) (stp why : Int32) (st : Nat → Int32) (li : Nat → Int32) (pa : Nat → Int32) (r c_ : Nat) (ou : Nat) (ov : Nat → Int64) (hL1 : 1 ≤ L) (hL : L ≤ 3) (hr_ : r < 8) (hc_ : c_ < 8) : CTW l yX0_part cX0_part 5 (some FieldType.int) [(0, 10, 13, 13)] (rm_X0_part_t) G b0 [.ref h, .int (nI r), .int (nI c_), .ref ou] [oC h ad sn hsh, oX (ad 1) 1 [.ref (ad 11), .int (nI L), .int stp, .int why], aI G (ad 11) 64 st, oX (ad 3) 5 [.ref (ad 12)], aI G (ad 12) 8 li, aI G (ad 6) 64 pa, aJ G ou 1 ov] sz (Ri G (fun (r_ : Int32) (u : Nat → Int32) => r_ = nI 0) (fun (u : Nat → Int32) => [oC h ad sn hsh, oX (ad 1) 1 [.ref (ad 11), .int (nI L), .int stp, .int why], aI G (ad 11) 64 st, oX (ad 3) 5 [.ref (ad 12)], aI G (ad 12) 8 u, aI G (ad 6) 64 (splitP st L), aJ G ou 1 (vp_updL ov 0 ((splitP st L (8 * r + c_)).toInt64))])) := by
  refine CTW.go (by decide) (Nat.le_of_ble_eq_true rfl) (fun p e s m below meth c A ls AR QQ hx hb hr hlk hml hown hnm hts hE hA hAb hsz hP hD hS hl htab hQQ => ?_)
  have hK := hE.1
  have hown : s.vm.findClass RX0 = some m.cls := hown
  have hl : lv_has ls 5 [(0, .ref h), (1, .int (nI r)), (2, .int (nI c_)), (3, .ref ou)] := hl
  clear hsz
  refine lv_aload_n hx hb dX0_part_0 rfl (lv_at hl 3 rfl) ?_
  refine lv_iconst (v := nI 0) hx hb dX0_part_1 (by decide) ?_
  refine lv_aload_n hx hb dX0_part_2 rfl (lv_at hl 0 rfl) ?_
  refine lv_iload_n hx hb dX0_part_3 rfl (lv_at hl 1 rfl) ?_
  refine lv_iload_n hx hb dX0_part_4 rfl (lv_at hl 2 rfl) ?_
  refine fin_i (ws' := (fun (u_1 : Nat → Int32) => [oC h ad sn hsh, oX (ad 1) 1 [.ref (ad 11), .int (nI L), .int stp, .int why], aI G (ad 11) 64 st, oX (ad 3) 5 [.ref (ad 12)], aI G (ad 12) 8 u_1, aI G (ad 6) 64 (splitP st L), aJ G ou 1 ov])) hA hS hP hD [0, 1, 2, 3, 4, 5] rfl [(true, 0), (true, 1), (true, 2), (true, 3), (true, 4), (true, 5), (false, 6)] (fun _ => rfl) (by decide) (run_V (As := [.int (nI r), .int (nI c_)]) (rest := [.int (nI 0), .ref ou]) (n9 := 2) hx hb hml hown hts hE hAb hl.1 hS hP hD [0, 1, 2, 3, 4, 5] rfl (by decide) (t_X1_part_t l G b0 _ h ad sn hsh L stp why st li pa r c_ (by exact hL1) (by exact hL) (by exact hr_) (by exact hc_)) (lw_V q1529 q1530 q1531 q106 q1532) 0 rfl rfl ⟨rfl, by decide, by decide, by decide +kernel⟩ ⟨Nat.le_of_ble_eq_true rfl, Nat.le_of_ble_eq_true rfl⟩ ⟨by first | exact Nat.le_of_ble_eq_true rfl | (simp only [rm_X0_part_t, rm_X1_part_t]; omega), by first | exact Nat.le_of_ble_eq_true rfl | (simp only [rm_X0_part_t, rm_X1_part_t]; omega)⟩ dX0_part_5 (Nat.le_of_ble_eq_true rfl) rfl rfl) (fun r_1 u_1 H locs h_1 hP hD hS => ?_)
  have hP : va_P G.1 vwCl [oC h ad sn hsh, oX (ad 1) 1 [.ref (ad 11), .int (nI L), .int stp, .int why], aI G (ad 11) 64 st, oX (ad 3) 5 [.ref (ad 12)], aI G (ad 12) 8 u_1, aI G (ad 6) 64 (splitP st L), aJ G ou 1 ov] _ := hP
  have hD : va_D A [oC h ad sn hsh, oX (ad 1) 1 [.ref (ad 11), .int (nI L), .int stp, .int why], aI G (ad 11) 64 st, oX (ad 3) 5 [.ref (ad 12)], aI G (ad 12) 8 u_1, aI G (ad 6) 64 (splitP st L), aJ G ou 1 ov] := hD
  have h_1 : r_1 = (splitP st L (8 * r + c_)) := h_1
  rw [h_1]
  refine lv_i2l (v := (splitP st L (8 * r + c_)).toInt64) hx hb dX0_part_8 rfl ?_
  refine N_last (ws' := [oC h ad sn hsh, oX (ad 1) 1 [.ref (ad 11), .int (nI L), .int stp, .int why], aI G (ad 11) 64 st, oX (ad 3) 5 [.ref (ad 12)], aI G (ad 12) 8 u_1, aI G (ad 6) 64 (splitP st L), aJ G ou 1 (vp_updL ov 0 ((splitP st L (8 * r + c_)).toInt64))]) hx hb dX0_part_9 hK hP hD hS 6 2 rfl rfl (by omega) (by omega) rfl (fun H locs hP hD hS => ?_)
  refine lv_goto (tgt := 17) hx hb dX0_part_10 (by decide) ?_
  refine lv_iconst (v := nI 0) hx hb dX0_part_17 (by decide) ?_
  rw [hQQ]
  exact vx_ret (rt_i hx hb hr hlk  u_1 dX0_part_18 hP hD hS (by first | exact Nat.le_of_ble_eq_true rfl | (simp only [rm_X0_part_t, rm_X1_part_t]; omega) | omega) (by first | exact Nat.le_of_ble_eq_true rfl | (simp only [rm_X0_part_t, rm_X1_part_t]; omega) | omega) (by rfl))
def rm_X0_bandOf_t : Room := ({ frames := 13, cells := 0, slots := 0, locals := 442 } : Room)
set_option maxHeartbeats 400000 in
set_option maxRecDepth 100000 in
theorem t_X0_bandOf_t (l : Launch) (G : GG) (b0 sz : Nat) (h : Nat) (ad : Nat → Nat) (sn : Value) (hsh : Int64) (L : Nat) (stp why : Int32) (r c_ : Nat) (ou : Nat) (ov : Nat → Int64) (hL1 : 1 ≤ L) (hL : L ≤ 3) (hr_ : r < 8) (hc_ : c_ < 8) : CTW l yX0_bandOf cX0_bandOf 5 (some FieldType.int) [(0, 10, 13, 13)] (rm_X0_bandOf_t) G b0 [.ref h, .int (nI r), .int (nI c_), .ref ou] [oC h ad sn hsh, oX (ad 1) 1 [.ref (ad 11), .int (nI L), .int stp, .int why], aR G (ad 2) 3 (orF ad), oX (ad (15 + L)) 2 [.ref (ad (16 + 3 * L)), .ref (ad (17 + 3 * L)), .ref (ad (18 + 3 * L)), .int (nI 64)], aI G (ad (18 + 3 * L)) 64 (nF (bnT L)), aJ G ou 1 ov] sz (Ri G (fun (r_ : Int32) (_ : Unit) => r_ = nI 0) (fun (_ : Unit) => [oC h ad sn hsh, oX (ad 1) 1 [.ref (ad 11), .int (nI L), .int stp, .int why], aR G (ad 2) 3 (orF ad), oX (ad (15 + L)) 2 [.ref (ad (16 + 3 * L)), .ref (ad (17 + 3 * L)), .ref (ad (18 + 3 * L)), .int (nI 64)], aI G (ad (18 + 3 * L)) 64 (nF (bnT L)), aJ G ou 1 (vp_updL ov 0 ((nI (bnT L (8 * r + c_))).toInt64))])) := by
  refine CTW.go (by decide) (Nat.le_of_ble_eq_true rfl) (fun p e s m below meth c A ls AR QQ hx hb hr hlk hml hown hnm hts hE hA hAb hsz hP hD hS hl htab hQQ => ?_)
  have hK := hE.1
  have hown : s.vm.findClass RX0 = some m.cls := hown
  have hl : lv_has ls 5 [(0, .ref h), (1, .int (nI r)), (2, .int (nI c_)), (3, .ref ou)] := hl
  clear hsz
  refine lv_aload_n hx hb dX0_bandOf_0 rfl (lv_at hl 3 rfl) ?_
  refine lv_iconst (v := nI 0) hx hb dX0_bandOf_1 (by decide) ?_
  refine lv_aload_n hx hb dX0_bandOf_2 rfl (lv_at hl 0 rfl) ?_
  refine lv_iload_n hx hb dX0_bandOf_3 rfl (lv_at hl 1 rfl) ?_
  refine lv_iload_n hx hb dX0_bandOf_4 rfl (lv_at hl 2 rfl) ?_
  refine fin_i (ws' := (fun (_ : Unit) => [oC h ad sn hsh, oX (ad 1) 1 [.ref (ad 11), .int (nI L), .int stp, .int why], aR G (ad 2) 3 (orF ad), oX (ad (15 + L)) 2 [.ref (ad (16 + 3 * L)), .ref (ad (17 + 3 * L)), .ref (ad (18 + 3 * L)), .int (nI 64)], aI G (ad (18 + 3 * L)) 64 (nF (bnT L)), aJ G ou 1 ov])) hA hS hP hD [0, 1, 2, 3, 4] rfl [(true, 0), (true, 1), (true, 2), (true, 3), (true, 4), (false, 5)] (fun _ => rfl) (by decide) (run_V (As := [.int (nI r), .int (nI c_)]) (rest := [.int (nI 0), .ref ou]) (n9 := 2) hx hb hml hown hts hE hAb hl.1 hS hP hD [0, 1, 2, 3, 4] rfl (by decide) (t_X1_bandOf_t l G b0 _ h ad sn hsh L stp why r c_ (by exact hL1) (by exact hL) (by exact hr_) (by exact hc_)) (lw_V q1536 q1537 q1538 q106 q1539) 0 rfl rfl ⟨rfl, by decide, by decide, by decide +kernel⟩ ⟨Nat.le_of_ble_eq_true rfl, Nat.le_of_ble_eq_true rfl⟩ ⟨by first | exact Nat.le_of_ble_eq_true rfl | (simp only [rm_X0_bandOf_t, rm_X1_bandOf_t]; omega), by first | exact Nat.le_of_ble_eq_true rfl | (simp only [rm_X0_bandOf_t, rm_X1_bandOf_t]; omega)⟩ dX0_bandOf_5 (Nat.le_of_ble_eq_true rfl) rfl rfl) (fun r_1 u_1 H locs h_1 hP hD hS => ?_)
  have hP : va_P G.1 vwCl [oC h ad sn hsh, oX (ad 1) 1 [.ref (ad 11), .int (nI L), .int stp, .int why], aR G (ad 2) 3 (orF ad), oX (ad (15 + L)) 2 [.ref (ad (16 + 3 * L)), .ref (ad (17 + 3 * L)), .ref (ad (18 + 3 * L)), .int (nI 64)], aI G (ad (18 + 3 * L)) 64 (nF (bnT L)), aJ G ou 1 ov] _ := hP
  have hD : va_D A [oC h ad sn hsh, oX (ad 1) 1 [.ref (ad 11), .int (nI L), .int stp, .int why], aR G (ad 2) 3 (orF ad), oX (ad (15 + L)) 2 [.ref (ad (16 + 3 * L)), .ref (ad (17 + 3 * L)), .ref (ad (18 + 3 * L)), .int (nI 64)], aI G (ad (18 + 3 * L)) 64 (nF (bnT L)), aJ G ou 1 ov] := hD
  have h_1 : r_1 = (nI (bnT L (8 * r + c_))) := h_1
  rw [h_1]
  refine lv_i2l (v := (nI (bnT L (8 * r + c_))).toInt64) hx hb dX0_bandOf_8 rfl ?_
  refine N_last (ws' := [oC h ad sn hsh, oX (ad 1) 1 [.ref (ad 11), .int (nI L), .int stp, .int why], aR G (ad 2) 3 (orF ad), oX (ad (15 + L)) 2 [.ref (ad (16 + 3 * L)), .ref (ad (17 + 3 * L)), .ref (ad (18 + 3 * L)), .int (nI 64)], aI G (ad (18 + 3 * L)) 64 (nF (bnT L)), aJ G ou 1 (vp_updL ov 0 ((nI (bnT L (8 * r + c_))).toInt64))]) hx hb dX0_bandOf_9 hK hP hD hS 5 2 rfl rfl (by omega) (by omega) rfl (fun H locs hP hD hS => ?_)
  refine lv_goto (tgt := 17) hx hb dX0_bandOf_10 (by decide) ?_
  refine lv_iconst (v := nI 0) hx hb dX0_bandOf_17 (by decide) ?_
  rw [hQQ]
  exact vx_ret (rt_i hx hb hr hlk  ((())) dX0_bandOf_18 hP hD hS (by first | exact Nat.le_of_ble_eq_true rfl | (simp only [rm_X0_bandOf_t, rm_X1_bandOf_t]; omega) | omega) (by first | exact Nat.le_of_ble_eq_true rfl | (simp only [rm_X0_bandOf_t, rm_X1_bandOf_t]; omega) | omega) (by rfl))
def rm_X0_placeOf_t : Room := ({ frames := 13, cells := 0, slots := 0, locals := 442 } : Room)
set_option maxHeartbeats 400000 in
set_option maxRecDepth 100000 in
theorem t_X0_placeOf_t (l : Launch) (G : GG) (b0 sz : Nat) (h : Nat) (ad : Nat → Nat) (sn : Value) (hsh : Int64) (L : Nat) (stp why : Int32) (r c_ : Nat) (ou : Nat) (ov : Nat → Int64) (hL1 : 1 ≤ L) (hL : L ≤ 3) (hr_ : r < 8) (hc_ : c_ < 8) : CTW l yX0_placeOf cX0_placeOf 5 (some FieldType.int) [(0, 10, 13, 13)] (rm_X0_placeOf_t) G b0 [.ref h, .int (nI r), .int (nI c_), .ref ou] [oC h ad sn hsh, oX (ad 1) 1 [.ref (ad 11), .int (nI L), .int stp, .int why], aR G (ad 2) 3 (orF ad), oX (ad (15 + L)) 2 [.ref (ad (16 + 3 * L)), .ref (ad (17 + 3 * L)), .ref (ad (18 + 3 * L)), .int (nI 64)], aI G (ad (17 + 3 * L)) 64 (nF (plT L)), aJ G ou 1 ov] sz (Ri G (fun (r_ : Int32) (_ : Unit) => r_ = nI 0) (fun (_ : Unit) => [oC h ad sn hsh, oX (ad 1) 1 [.ref (ad 11), .int (nI L), .int stp, .int why], aR G (ad 2) 3 (orF ad), oX (ad (15 + L)) 2 [.ref (ad (16 + 3 * L)), .ref (ad (17 + 3 * L)), .ref (ad (18 + 3 * L)), .int (nI 64)], aI G (ad (17 + 3 * L)) 64 (nF (plT L)), aJ G ou 1 (vp_updL ov 0 ((nI (plT L (8 * r + c_))).toInt64))])) := by
  refine CTW.go (by decide) (Nat.le_of_ble_eq_true rfl) (fun p e s m below meth c A ls AR QQ hx hb hr hlk hml hown hnm hts hE hA hAb hsz hP hD hS hl htab hQQ => ?_)
  have hK := hE.1
  have hown : s.vm.findClass RX0 = some m.cls := hown
  have hl : lv_has ls 5 [(0, .ref h), (1, .int (nI r)), (2, .int (nI c_)), (3, .ref ou)] := hl
  clear hsz
  refine lv_aload_n hx hb dX0_placeOf_0 rfl (lv_at hl 3 rfl) ?_
  refine lv_iconst (v := nI 0) hx hb dX0_placeOf_1 (by decide) ?_
  refine lv_aload_n hx hb dX0_placeOf_2 rfl (lv_at hl 0 rfl) ?_
  refine lv_iload_n hx hb dX0_placeOf_3 rfl (lv_at hl 1 rfl) ?_
  refine lv_iload_n hx hb dX0_placeOf_4 rfl (lv_at hl 2 rfl) ?_
  refine fin_i (ws' := (fun (_ : Unit) => [oC h ad sn hsh, oX (ad 1) 1 [.ref (ad 11), .int (nI L), .int stp, .int why], aR G (ad 2) 3 (orF ad), oX (ad (15 + L)) 2 [.ref (ad (16 + 3 * L)), .ref (ad (17 + 3 * L)), .ref (ad (18 + 3 * L)), .int (nI 64)], aI G (ad (17 + 3 * L)) 64 (nF (plT L)), aJ G ou 1 ov])) hA hS hP hD [0, 1, 2, 3, 4] rfl [(true, 0), (true, 1), (true, 2), (true, 3), (true, 4), (false, 5)] (fun _ => rfl) (by decide) (run_V (As := [.int (nI r), .int (nI c_)]) (rest := [.int (nI 0), .ref ou]) (n9 := 2) hx hb hml hown hts hE hAb hl.1 hS hP hD [0, 1, 2, 3, 4] rfl (by decide) (t_X1_placeOf_t l G b0 _ h ad sn hsh L stp why r c_ (by exact hL1) (by exact hL) (by exact hr_) (by exact hc_)) (lw_V q1543 q1544 q1545 q106 q1546) 0 rfl rfl ⟨rfl, by decide, by decide, by decide +kernel⟩ ⟨Nat.le_of_ble_eq_true rfl, Nat.le_of_ble_eq_true rfl⟩ ⟨by first | exact Nat.le_of_ble_eq_true rfl | (simp only [rm_X0_placeOf_t, rm_X1_placeOf_t]; omega), by first | exact Nat.le_of_ble_eq_true rfl | (simp only [rm_X0_placeOf_t, rm_X1_placeOf_t]; omega)⟩ dX0_placeOf_5 (Nat.le_of_ble_eq_true rfl) rfl rfl) (fun r_1 u_1 H locs h_1 hP hD hS => ?_)
  have hP : va_P G.1 vwCl [oC h ad sn hsh, oX (ad 1) 1 [.ref (ad 11), .int (nI L), .int stp, .int why], aR G (ad 2) 3 (orF ad), oX (ad (15 + L)) 2 [.ref (ad (16 + 3 * L)), .ref (ad (17 + 3 * L)), .ref (ad (18 + 3 * L)), .int (nI 64)], aI G (ad (17 + 3 * L)) 64 (nF (plT L)), aJ G ou 1 ov] _ := hP
  have hD : va_D A [oC h ad sn hsh, oX (ad 1) 1 [.ref (ad 11), .int (nI L), .int stp, .int why], aR G (ad 2) 3 (orF ad), oX (ad (15 + L)) 2 [.ref (ad (16 + 3 * L)), .ref (ad (17 + 3 * L)), .ref (ad (18 + 3 * L)), .int (nI 64)], aI G (ad (17 + 3 * L)) 64 (nF (plT L)), aJ G ou 1 ov] := hD
  have h_1 : r_1 = (nI (plT L (8 * r + c_))) := h_1
  rw [h_1]
  refine lv_i2l (v := (nI (plT L (8 * r + c_))).toInt64) hx hb dX0_placeOf_8 rfl ?_
  refine N_last (ws' := [oC h ad sn hsh, oX (ad 1) 1 [.ref (ad 11), .int (nI L), .int stp, .int why], aR G (ad 2) 3 (orF ad), oX (ad (15 + L)) 2 [.ref (ad (16 + 3 * L)), .ref (ad (17 + 3 * L)), .ref (ad (18 + 3 * L)), .int (nI 64)], aI G (ad (17 + 3 * L)) 64 (nF (plT L)), aJ G ou 1 (vp_updL ov 0 ((nI (plT L (8 * r + c_))).toInt64))]) hx hb dX0_placeOf_9 hK hP hD hS 5 2 rfl rfl (by omega) (by omega) rfl (fun H locs hP hD hS => ?_)
  refine lv_goto (tgt := 17) hx hb dX0_placeOf_10 (by decide) ?_
  refine lv_iconst (v := nI 0) hx hb dX0_placeOf_17 (by decide) ?_
  rw [hQQ]
  exact vx_ret (rt_i hx hb hr hlk  ((())) dX0_placeOf_18 hP hD hS (by first | exact Nat.le_of_ble_eq_true rfl | (simp only [rm_X0_placeOf_t, rm_X1_placeOf_t]; omega) | omega) (by first | exact Nat.le_of_ble_eq_true rfl | (simp only [rm_X0_placeOf_t, rm_X1_placeOf_t]; omega) | omega) (by rfl))
def rm_X0_shadeBack_t : Room := ({ frames := 13, cells := 0, slots := 0, locals := 443 } : Room)
set_option maxHeartbeats 400000 in
set_option maxRecDepth 100000 in
theorem t_X0_shadeBack_t (l : Launch) (G : GG) (b0 sz : Nat) (h : Nat) (ad : Nat → Nat) (sn : Value) (hsh : Int64) (L : Nat) (stp why : Int32) (st : Nat → Int32) (li : Nat → Int32) (pa : Nat → Int32) (rm : Nat → Int32) (r c_ : Nat) (ou : Nat) (ov : Nat → Int64) (hL1 : 1 ≤ L) (hL : L ≤ 3) (hr_ : r < 8) (hc_ : c_ < 8) : CTW l yX0_shadeBack cX0_shadeBack 5 (some FieldType.int) [(0, 10, 13, 13)] (rm_X0_shadeBack_t) G b0 [.ref h, .int (nI r), .int (nI c_), .ref ou] [oC h ad sn hsh, oX (ad 1) 1 [.ref (ad 11), .int (nI L), .int stp, .int why], aI G (ad 11) 64 st, oX (ad 3) 5 [.ref (ad 12)], aI G (ad 12) 8 li, aI G (ad 6) 64 pa, aI G (ad 8) 64 rm, aJ G ou 1 ov] sz (Ri G (fun (r_ : Int32) (u : Nat → Int32) => r_ = nI 0) (fun (u : Nat → Int32) => [oC h ad sn hsh, oX (ad 1) 1 [.ref (ad 11), .int (nI L), .int stp, .int why], aI G (ad 11) 64 st, oX (ad 3) 5 [.ref (ad 12)], aI G (ad 12) 8 u, aI G (ad 6) 64 (splitP st L), aI G (ad 8) 64 (joinP L (splitP st L)), aJ G ou 1 (vp_updL ov 0 ((joinP L (splitP st L) (8 * r + c_)).toInt64))])) := by
  refine CTW.go (by decide) (Nat.le_of_ble_eq_true rfl) (fun p e s m below meth c A ls AR QQ hx hb hr hlk hml hown hnm hts hE hA hAb hsz hP hD hS hl htab hQQ => ?_)
  have hK := hE.1
  have hown : s.vm.findClass RX0 = some m.cls := hown
  have hl : lv_has ls 5 [(0, .ref h), (1, .int (nI r)), (2, .int (nI c_)), (3, .ref ou)] := hl
  clear hsz
  refine lv_aload_n hx hb dX0_shadeBack_0 rfl (lv_at hl 3 rfl) ?_
  refine lv_iconst (v := nI 0) hx hb dX0_shadeBack_1 (by decide) ?_
  refine lv_aload_n hx hb dX0_shadeBack_2 rfl (lv_at hl 0 rfl) ?_
  refine lv_iload_n hx hb dX0_shadeBack_3 rfl (lv_at hl 1 rfl) ?_
  refine lv_iload_n hx hb dX0_shadeBack_4 rfl (lv_at hl 2 rfl) ?_
  refine fin_i (ws' := (fun (u_1 : Nat → Int32) => [oC h ad sn hsh, oX (ad 1) 1 [.ref (ad 11), .int (nI L), .int stp, .int why], aI G (ad 11) 64 st, oX (ad 3) 5 [.ref (ad 12)], aI G (ad 12) 8 u_1, aI G (ad 6) 64 (splitP st L), aI G (ad 8) 64 (joinP L (splitP st L)), aJ G ou 1 ov])) hA hS hP hD [0, 1, 2, 3, 4, 5, 6] rfl [(true, 0), (true, 1), (true, 2), (true, 3), (true, 4), (true, 5), (true, 6), (false, 7)] (fun _ => rfl) (by decide) (run_V (As := [.int (nI r), .int (nI c_)]) (rest := [.int (nI 0), .ref ou]) (n9 := 2) hx hb hml hown hts hE hAb hl.1 hS hP hD [0, 1, 2, 3, 4, 5, 6] rfl (by decide) (t_X1_shadeBack_t l G b0 _ h ad sn hsh L stp why st li pa rm r c_ (by exact hL1) (by exact hL) (by exact hr_) (by exact hc_)) (lw_V q1557 q1558 q1559 q106 q1560) 0 rfl rfl ⟨rfl, by decide, by decide, by decide +kernel⟩ ⟨Nat.le_of_ble_eq_true rfl, Nat.le_of_ble_eq_true rfl⟩ ⟨by first | exact Nat.le_of_ble_eq_true rfl | (simp only [rm_X0_shadeBack_t, rm_X1_shadeBack_t]; omega), by first | exact Nat.le_of_ble_eq_true rfl | (simp only [rm_X0_shadeBack_t, rm_X1_shadeBack_t]; omega)⟩ dX0_shadeBack_5 (Nat.le_of_ble_eq_true rfl) rfl rfl) (fun r_1 u_1 H locs h_1 hP hD hS => ?_)
  have hP : va_P G.1 vwCl [oC h ad sn hsh, oX (ad 1) 1 [.ref (ad 11), .int (nI L), .int stp, .int why], aI G (ad 11) 64 st, oX (ad 3) 5 [.ref (ad 12)], aI G (ad 12) 8 u_1, aI G (ad 6) 64 (splitP st L), aI G (ad 8) 64 (joinP L (splitP st L)), aJ G ou 1 ov] _ := hP
  have hD : va_D A [oC h ad sn hsh, oX (ad 1) 1 [.ref (ad 11), .int (nI L), .int stp, .int why], aI G (ad 11) 64 st, oX (ad 3) 5 [.ref (ad 12)], aI G (ad 12) 8 u_1, aI G (ad 6) 64 (splitP st L), aI G (ad 8) 64 (joinP L (splitP st L)), aJ G ou 1 ov] := hD
  have h_1 : r_1 = (joinP L (splitP st L) (8 * r + c_)) := h_1
  rw [h_1]
  refine lv_i2l (v := (joinP L (splitP st L) (8 * r + c_)).toInt64) hx hb dX0_shadeBack_8 rfl ?_
  refine N_last (ws' := [oC h ad sn hsh, oX (ad 1) 1 [.ref (ad 11), .int (nI L), .int stp, .int why], aI G (ad 11) 64 st, oX (ad 3) 5 [.ref (ad 12)], aI G (ad 12) 8 u_1, aI G (ad 6) 64 (splitP st L), aI G (ad 8) 64 (joinP L (splitP st L)), aJ G ou 1 (vp_updL ov 0 ((joinP L (splitP st L) (8 * r + c_)).toInt64))]) hx hb dX0_shadeBack_9 hK hP hD hS 7 2 rfl rfl (by omega) (by omega) rfl (fun H locs hP hD hS => ?_)
  refine lv_goto (tgt := 17) hx hb dX0_shadeBack_10 (by decide) ?_
  refine lv_iconst (v := nI 0) hx hb dX0_shadeBack_17 (by decide) ?_
  rw [hQQ]
  exact vx_ret (rt_i hx hb hr hlk  u_1 dX0_shadeBack_18 hP hD hS (by first | exact Nat.le_of_ble_eq_true rfl | (simp only [rm_X0_shadeBack_t, rm_X1_shadeBack_t]; omega) | omega) (by first | exact Nat.le_of_ble_eq_true rfl | (simp only [rm_X0_shadeBack_t, rm_X1_shadeBack_t]; omega) | omega) (by rfl))
def rm_X0_shadeByParts_t : Room := ({ frames := 13, cells := 0, slots := 0, locals := 442 } : Room)
set_option maxHeartbeats 400000 in
set_option maxRecDepth 100000 in
theorem t_X0_shadeByParts_t (l : Launch) (G : GG) (b0 sz : Nat) (h : Nat) (ad : Nat → Nat) (sn : Value) (hsh : Int64) (L : Nat) (stp why : Int32) (st : Nat → Int32) (li : Nat → Int32) (pa : Nat → Int32) (r c_ : Nat) (ou : Nat) (ov : Nat → Int64) (hL1 : 1 ≤ L) (hL : L ≤ 3) (hr_ : r < 8) (hc_ : c_ < 8) : CTW l yX0_shadeByParts cX0_shadeByParts 5 (some FieldType.int) [(0, 10, 13, 13)] (rm_X0_shadeByParts_t) G b0 [.ref h, .int (nI r), .int (nI c_), .ref ou] [oC h ad sn hsh, oX (ad 1) 1 [.ref (ad 11), .int (nI L), .int stp, .int why], aI G (ad 11) 64 st, oX (ad 3) 5 [.ref (ad 12)], aI G (ad 12) 8 li, aI G (ad 6) 64 pa, aJ G ou 1 ov] sz (Ri G (fun (r_ : Int32) (u : Nat → Int32) => r_ = nI 0) (fun (u : Nat → Int32) => [oC h ad sn hsh, oX (ad 1) 1 [.ref (ad 11), .int (nI L), .int stp, .int why], aI G (ad 11) 64 st, oX (ad 3) 5 [.ref (ad 12)], aI G (ad 12) 8 u, aI G (ad 6) 64 (splitP st L), aJ G ou 1 (vp_updL ov 0 ((nmA (splitP st L) L 0 r c_).toInt64))])) := by
  refine CTW.go (by decide) (Nat.le_of_ble_eq_true rfl) (fun p e s m below meth c A ls AR QQ hx hb hr hlk hml hown hnm hts hE hA hAb hsz hP hD hS hl htab hQQ => ?_)
  have hK := hE.1
  have hown : s.vm.findClass RX0 = some m.cls := hown
  have hl : lv_has ls 5 [(0, .ref h), (1, .int (nI r)), (2, .int (nI c_)), (3, .ref ou)] := hl
  clear hsz
  refine lv_aload_n hx hb dX0_shadeByParts_0 rfl (lv_at hl 3 rfl) ?_
  refine lv_iconst (v := nI 0) hx hb dX0_shadeByParts_1 (by decide) ?_
  refine lv_aload_n hx hb dX0_shadeByParts_2 rfl (lv_at hl 0 rfl) ?_
  refine lv_iload_n hx hb dX0_shadeByParts_3 rfl (lv_at hl 1 rfl) ?_
  refine lv_iload_n hx hb dX0_shadeByParts_4 rfl (lv_at hl 2 rfl) ?_
  refine fin_i (ws' := (fun (u_1 : Nat → Int32) => [oC h ad sn hsh, oX (ad 1) 1 [.ref (ad 11), .int (nI L), .int stp, .int why], aI G (ad 11) 64 st, oX (ad 3) 5 [.ref (ad 12)], aI G (ad 12) 8 u_1, aI G (ad 6) 64 (splitP st L), aJ G ou 1 ov])) hA hS hP hD [0, 1, 2, 3, 4, 5] rfl [(true, 0), (true, 1), (true, 2), (true, 3), (true, 4), (true, 5), (false, 6)] (fun _ => rfl) (by decide) (run_V (As := [.int (nI r), .int (nI c_)]) (rest := [.int (nI 0), .ref ou]) (n9 := 2) hx hb hml hown hts hE hAb hl.1 hS hP hD [0, 1, 2, 3, 4, 5] rfl (by decide) (t_X1_shadeByParts_t l G b0 _ h ad sn hsh L stp why st li pa r c_ (by exact hL1) (by exact hL) (by exact hr_) (by exact hc_)) (lw_V q1564 q1565 q1566 q106 q1567) 0 rfl rfl ⟨rfl, by decide, by decide, by decide +kernel⟩ ⟨Nat.le_of_ble_eq_true rfl, Nat.le_of_ble_eq_true rfl⟩ ⟨by first | exact Nat.le_of_ble_eq_true rfl | (simp only [rm_X0_shadeByParts_t, rm_X1_shadeByParts_t]; omega), by first | exact Nat.le_of_ble_eq_true rfl | (simp only [rm_X0_shadeByParts_t, rm_X1_shadeByParts_t]; omega)⟩ dX0_shadeByParts_5 (Nat.le_of_ble_eq_true rfl) rfl rfl) (fun r_1 u_1 H locs h_1 hP hD hS => ?_)
  have hP : va_P G.1 vwCl [oC h ad sn hsh, oX (ad 1) 1 [.ref (ad 11), .int (nI L), .int stp, .int why], aI G (ad 11) 64 st, oX (ad 3) 5 [.ref (ad 12)], aI G (ad 12) 8 u_1, aI G (ad 6) 64 (splitP st L), aJ G ou 1 ov] _ := hP
  have hD : va_D A [oC h ad sn hsh, oX (ad 1) 1 [.ref (ad 11), .int (nI L), .int stp, .int why], aI G (ad 11) 64 st, oX (ad 3) 5 [.ref (ad 12)], aI G (ad 12) 8 u_1, aI G (ad 6) 64 (splitP st L), aJ G ou 1 ov] := hD
  have h_1 : r_1 = (nmA (splitP st L) L 0 r c_) := h_1
  rw [h_1]
  refine lv_i2l (v := (nmA (splitP st L) L 0 r c_).toInt64) hx hb dX0_shadeByParts_8 rfl ?_
  refine N_last (ws' := [oC h ad sn hsh, oX (ad 1) 1 [.ref (ad 11), .int (nI L), .int stp, .int why], aI G (ad 11) 64 st, oX (ad 3) 5 [.ref (ad 12)], aI G (ad 12) 8 u_1, aI G (ad 6) 64 (splitP st L), aJ G ou 1 (vp_updL ov 0 ((nmA (splitP st L) L 0 r c_).toInt64))]) hx hb dX0_shadeByParts_9 hK hP hD hS 6 2 rfl rfl (by omega) (by omega) rfl (fun H locs hP hD hS => ?_)
  refine lv_goto (tgt := 17) hx hb dX0_shadeByParts_10 (by decide) ?_
  refine lv_iconst (v := nI 0) hx hb dX0_shadeByParts_17 (by decide) ?_
  rw [hQQ]
  exact vx_ret (rt_i hx hb hr hlk  u_1 dX0_shadeByParts_18 hP hD hS (by first | exact Nat.le_of_ble_eq_true rfl | (simp only [rm_X0_shadeByParts_t, rm_X1_shadeByParts_t]; omega) | omega) (by first | exact Nat.le_of_ble_eq_true rfl | (simp only [rm_X0_shadeByParts_t, rm_X1_shadeByParts_t]; omega) | omega) (by rfl))
def rm_X0_energy_t : Room := ({ frames := 13, cells := 0, slots := 0, locals := 441 } : Room)
set_option maxHeartbeats 400000 in
set_option maxRecDepth 100000 in
theorem t_X0_energy_t (l : Launch) (G : GG) (b0 sz : Nat) (h : Nat) (ad : Nat → Nat) (sn : Value) (hsh : Int64) (L : Nat) (stp why : Int32) (st : Nat → Int32) (li : Nat → Int32) (pa : Nat → Int32) (t : Int32) (ou : Nat) (ov : Nat → Int64) (hL1 : 1 ≤ L) (hL : L ≤ 3) (htt : inB t (nI 0) (nI 9) = true) : CTW l yX0_energy cX0_energy 4 (some FieldType.int) [(0, 9, 12, 15)] (rm_X0_energy_t) G b0 [.ref h, .int t, .ref ou] [oC h ad sn hsh, oX (ad 1) 1 [.ref (ad 11), .int (nI L), .int stp, .int why], aI G (ad 11) 64 st, oX (ad 3) 5 [.ref (ad 12)], aI G (ad 12) 8 li, aI G (ad 6) 64 pa, aR G (ad 2) 3 (orF ad), oX (ad (15 + L)) 2 [.ref (ad (16 + 3 * L)), .ref (ad (17 + 3 * L)), .ref (ad (18 + 3 * L)), .int (nI 64)], aI G (ad (18 + 3 * L)) 64 (nF (bnT L)), aJ G ou 1 ov] sz (Ri G (fun (r_ : Int32) (u : Nat → Int32) => r_ = nI 0) (fun (u : Nat → Int32) => [oC h ad sn hsh, oX (ad 1) 1 [.ref (ad 11), .int (nI L), .int stp, .int why], aI G (ad 11) 64 st, oX (ad 3) 5 [.ref (ad 12)], aI G (ad 12) 8 u, aI G (ad 6) 64 (splitP st L), aR G (ad 2) 3 (orF ad), oX (ad (15 + L)) 2 [.ref (ad (16 + 3 * L)), .ref (ad (17 + 3 * L)), .ref (ad (18 + 3 * L)), .int (nI 64)], aI G (ad (18 + 3 * L)) 64 (nF (bnT L)), aJ G ou 1 (vp_updL ov 0 ((l_sum (engI L t (splitP st L)) 64).toInt64))])) := by
  refine CTW.go (by decide) (Nat.le_of_ble_eq_true rfl) (fun p e s m below meth c A ls AR QQ hx hb hr hlk hml hown hnm hts hE hA hAb hsz hP hD hS hl htab hQQ => ?_)
  have hK := hE.1
  have hown : s.vm.findClass RX0 = some m.cls := hown
  have hl : lv_has ls 4 [(0, .ref h), (1, .int t), (2, .ref ou)] := hl
  clear hsz
  refine lv_aload_n hx hb dX0_energy_0 rfl (lv_at hl 2 rfl) ?_
  refine lv_iconst (v := nI 0) hx hb dX0_energy_1 (by decide) ?_
  refine lv_aload_n hx hb dX0_energy_2 rfl (lv_at hl 0 rfl) ?_
  refine lv_iload_n hx hb dX0_energy_3 rfl (lv_at hl 1 rfl) ?_
  refine fin_i (ws' := (fun (u_1 : Nat → Int32) => [oC h ad sn hsh, oX (ad 1) 1 [.ref (ad 11), .int (nI L), .int stp, .int why], aI G (ad 11) 64 st, oX (ad 3) 5 [.ref (ad 12)], aI G (ad 12) 8 u_1, aI G (ad 6) 64 (splitP st L), aR G (ad 2) 3 (orF ad), oX (ad (15 + L)) 2 [.ref (ad (16 + 3 * L)), .ref (ad (17 + 3 * L)), .ref (ad (18 + 3 * L)), .int (nI 64)], aI G (ad (18 + 3 * L)) 64 (nF (bnT L)), aJ G ou 1 ov])) hA hS hP hD [0, 1, 2, 3, 4, 5, 6, 7, 8] rfl [(true, 0), (true, 1), (true, 2), (true, 3), (true, 4), (true, 5), (true, 6), (true, 7), (true, 8), (false, 9)] (fun _ => rfl) (by decide) (run_V (As := [.int t]) (rest := [.int (nI 0), .ref ou]) (n9 := 1) hx hb hml hown hts hE hAb hl.1 hS hP hD [0, 1, 2, 3, 4, 5, 6, 7, 8] rfl (by decide) (t_X1_energy_t l G b0 _ h ad sn hsh L stp why st li pa t (by exact hL1) (by exact hL) (by exact htt)) (lw_V q1550 q1551 q1552 q106 q1553) 0 rfl rfl ⟨rfl, by decide, by decide, by decide +kernel⟩ ⟨Nat.le_of_ble_eq_true rfl, Nat.le_of_ble_eq_true rfl⟩ ⟨by first | exact Nat.le_of_ble_eq_true rfl | (simp only [rm_X0_energy_t, rm_X1_energy_t]; omega), by first | exact Nat.le_of_ble_eq_true rfl | (simp only [rm_X0_energy_t, rm_X1_energy_t]; omega)⟩ dX0_energy_4 (Nat.le_of_ble_eq_true rfl) rfl rfl) (fun r_1 u_1 H locs h_1 hP hD hS => ?_)
  have hP : va_P G.1 vwCl [oC h ad sn hsh, oX (ad 1) 1 [.ref (ad 11), .int (nI L), .int stp, .int why], aI G (ad 11) 64 st, oX (ad 3) 5 [.ref (ad 12)], aI G (ad 12) 8 u_1, aI G (ad 6) 64 (splitP st L), aR G (ad 2) 3 (orF ad), oX (ad (15 + L)) 2 [.ref (ad (16 + 3 * L)), .ref (ad (17 + 3 * L)), .ref (ad (18 + 3 * L)), .int (nI 64)], aI G (ad (18 + 3 * L)) 64 (nF (bnT L)), aJ G ou 1 ov] _ := hP
  have hD : va_D A [oC h ad sn hsh, oX (ad 1) 1 [.ref (ad 11), .int (nI L), .int stp, .int why], aI G (ad 11) 64 st, oX (ad 3) 5 [.ref (ad 12)], aI G (ad 12) 8 u_1, aI G (ad 6) 64 (splitP st L), aR G (ad 2) 3 (orF ad), oX (ad (15 + L)) 2 [.ref (ad (16 + 3 * L)), .ref (ad (17 + 3 * L)), .ref (ad (18 + 3 * L)), .int (nI 64)], aI G (ad (18 + 3 * L)) 64 (nF (bnT L)), aJ G ou 1 ov] := hD
  have h_1 : r_1 = (l_sum (engI L t (splitP st L)) 64) := h_1
  rw [h_1]
  refine lv_i2l (v := (l_sum (engI L t (splitP st L)) 64).toInt64) hx hb dX0_energy_7 rfl ?_
  refine N_last (ws' := [oC h ad sn hsh, oX (ad 1) 1 [.ref (ad 11), .int (nI L), .int stp, .int why], aI G (ad 11) 64 st, oX (ad 3) 5 [.ref (ad 12)], aI G (ad 12) 8 u_1, aI G (ad 6) 64 (splitP st L), aR G (ad 2) 3 (orF ad), oX (ad (15 + L)) 2 [.ref (ad (16 + 3 * L)), .ref (ad (17 + 3 * L)), .ref (ad (18 + 3 * L)), .int (nI 64)], aI G (ad (18 + 3 * L)) 64 (nF (bnT L)), aJ G ou 1 (vp_updL ov 0 ((l_sum (engI L t (splitP st L)) 64).toInt64))]) hx hb dX0_energy_8 hK hP hD hS 9 2 rfl rfl (by omega) (by omega) rfl (fun H locs hP hD hS => ?_)
  refine lv_goto (tgt := 15) hx hb dX0_energy_9 (by decide) ?_
  refine lv_iconst (v := nI 0) hx hb dX0_energy_15 (by decide) ?_
  rw [hQQ]
  exact vx_ret (rt_i hx hb hr hlk  u_1 dX0_energy_16 hP hD hS (by first | exact Nat.le_of_ble_eq_true rfl | (simp only [rm_X0_energy_t, rm_X1_energy_t]; omega) | omega) (by first | exact Nat.le_of_ble_eq_true rfl | (simp only [rm_X0_energy_t, rm_X1_energy_t]; omega) | omega) (by rfl))
def rm_X0_crumbs_t : Room := ({ frames := 13, cells := 0, slots := 0, locals := 441 } : Room)
set_option maxHeartbeats 400000 in
set_option maxRecDepth 100000 in
theorem t_X0_crumbs_t (l : Launch) (G : GG) (b0 sz : Nat) (h : Nat) (ad : Nat → Nat) (sn : Value) (hsh : Int64) (L : Nat) (stp why : Int32) (st : Nat → Int32) (li : Nat → Int32) (pa : Nat → Int32) (ot : Nat → Int32) (t : Int32) (ou : Nat) (ov : Nat → Int64) (hL1 : 1 ≤ L) (hL : L ≤ 3) (htt : isSh t = true) : CTW l yX0_crumbs cX0_crumbs 4 (some FieldType.int) [(0, 9, 12, 15)] (rm_X0_crumbs_t) G b0 [.ref h, .int t, .ref ou] [oC h ad sn hsh, oX (ad 1) 1 [.ref (ad 11), .int (nI L), .int stp, .int why], aI G (ad 11) 64 st, oX (ad 3) 5 [.ref (ad 12)], aI G (ad 12) 8 li, aI G (ad 6) 64 pa, aI G (ad 7) 64 ot, aR G (ad 2) 3 (orF ad), oX (ad (15 + L)) 2 [.ref (ad (16 + 3 * L)), .ref (ad (17 + 3 * L)), .ref (ad (18 + 3 * L)), .int (nI 64)], aI G (ad (18 + 3 * L)) 64 (nF (bnT L)), aJ G ou 1 ov] sz (Ri G (fun (r_ : Int32) (u : Nat → Int32) => r_ = nI 0) (fun (u : Nat → Int32) => [oC h ad sn hsh, oX (ad 1) 1 [.ref (ad 11), .int (nI L), .int stp, .int why], aI G (ad 11) 64 st, oX (ad 3) 5 [.ref (ad 12)], aI G (ad 12) 8 u, aI G (ad 6) 64 (splitP st L), aI G (ad 7) 64 (drpA L t (splitP st L)), aR G (ad 2) 3 (orF ad), oX (ad (15 + L)) 2 [.ref (ad (16 + 3 * L)), .ref (ad (17 + 3 * L)), .ref (ad (18 + 3 * L)), .int (nI 64)], aI G (ad (18 + 3 * L)) 64 (nF (bnT L)), aJ G ou 1 (vp_updL ov 0 ((nI (cntN (crmB L t (splitP st L)) 64)).toInt64))])) := by
  refine CTW.go (by decide) (Nat.le_of_ble_eq_true rfl) (fun p e s m below meth c A ls AR QQ hx hb hr hlk hml hown hnm hts hE hA hAb hsz hP hD hS hl htab hQQ => ?_)
  have hK := hE.1
  have hown : s.vm.findClass RX0 = some m.cls := hown
  have hl : lv_has ls 4 [(0, .ref h), (1, .int t), (2, .ref ou)] := hl
  clear hsz
  refine lv_aload_n hx hb dX0_crumbs_0 rfl (lv_at hl 2 rfl) ?_
  refine lv_iconst (v := nI 0) hx hb dX0_crumbs_1 (by decide) ?_
  refine lv_aload_n hx hb dX0_crumbs_2 rfl (lv_at hl 0 rfl) ?_
  refine lv_iload_n hx hb dX0_crumbs_3 rfl (lv_at hl 1 rfl) ?_
  refine fin_i (ws' := (fun (u_1 : Nat → Int32) => [oC h ad sn hsh, oX (ad 1) 1 [.ref (ad 11), .int (nI L), .int stp, .int why], aI G (ad 11) 64 st, oX (ad 3) 5 [.ref (ad 12)], aI G (ad 12) 8 u_1, aI G (ad 6) 64 (splitP st L), aI G (ad 7) 64 (drpA L t (splitP st L)), aR G (ad 2) 3 (orF ad), oX (ad (15 + L)) 2 [.ref (ad (16 + 3 * L)), .ref (ad (17 + 3 * L)), .ref (ad (18 + 3 * L)), .int (nI 64)], aI G (ad (18 + 3 * L)) 64 (nF (bnT L)), aJ G ou 1 ov])) hA hS hP hD [0, 1, 2, 3, 4, 5, 6, 7, 8, 9] rfl [(true, 0), (true, 1), (true, 2), (true, 3), (true, 4), (true, 5), (true, 6), (true, 7), (true, 8), (true, 9), (false, 10)] (fun _ => rfl) (by decide) (run_V (As := [.int t]) (rest := [.int (nI 0), .ref ou]) (n9 := 1) hx hb hml hown hts hE hAb hl.1 hS hP hD [0, 1, 2, 3, 4, 5, 6, 7, 8, 9] rfl (by decide) (t_X1_crumbs_t l G b0 _ h ad sn hsh L stp why st li pa ot t (by exact hL1) (by exact hL) (by exact htt)) (lw_V q1571 q1572 q1573 q106 q1574) 0 rfl rfl ⟨rfl, by decide, by decide, by decide +kernel⟩ ⟨Nat.le_of_ble_eq_true rfl, Nat.le_of_ble_eq_true rfl⟩ ⟨by first | exact Nat.le_of_ble_eq_true rfl | (simp only [rm_X0_crumbs_t, rm_X1_crumbs_t]; omega), by first | exact Nat.le_of_ble_eq_true rfl | (simp only [rm_X0_crumbs_t, rm_X1_crumbs_t]; omega)⟩ dX0_crumbs_4 (Nat.le_of_ble_eq_true rfl) rfl rfl) (fun r_1 u_1 H locs h_1 hP hD hS => ?_)
  have hP : va_P G.1 vwCl [oC h ad sn hsh, oX (ad 1) 1 [.ref (ad 11), .int (nI L), .int stp, .int why], aI G (ad 11) 64 st, oX (ad 3) 5 [.ref (ad 12)], aI G (ad 12) 8 u_1, aI G (ad 6) 64 (splitP st L), aI G (ad 7) 64 (drpA L t (splitP st L)), aR G (ad 2) 3 (orF ad), oX (ad (15 + L)) 2 [.ref (ad (16 + 3 * L)), .ref (ad (17 + 3 * L)), .ref (ad (18 + 3 * L)), .int (nI 64)], aI G (ad (18 + 3 * L)) 64 (nF (bnT L)), aJ G ou 1 ov] _ := hP
  have hD : va_D A [oC h ad sn hsh, oX (ad 1) 1 [.ref (ad 11), .int (nI L), .int stp, .int why], aI G (ad 11) 64 st, oX (ad 3) 5 [.ref (ad 12)], aI G (ad 12) 8 u_1, aI G (ad 6) 64 (splitP st L), aI G (ad 7) 64 (drpA L t (splitP st L)), aR G (ad 2) 3 (orF ad), oX (ad (15 + L)) 2 [.ref (ad (16 + 3 * L)), .ref (ad (17 + 3 * L)), .ref (ad (18 + 3 * L)), .int (nI 64)], aI G (ad (18 + 3 * L)) 64 (nF (bnT L)), aJ G ou 1 ov] := hD
  have h_1 : r_1 = (nI (cntN (crmB L t (splitP st L)) 64)) := h_1
  rw [h_1]
  refine lv_i2l (v := (nI (cntN (crmB L t (splitP st L)) 64)).toInt64) hx hb dX0_crumbs_7 rfl ?_
  refine N_last (ws' := [oC h ad sn hsh, oX (ad 1) 1 [.ref (ad 11), .int (nI L), .int stp, .int why], aI G (ad 11) 64 st, oX (ad 3) 5 [.ref (ad 12)], aI G (ad 12) 8 u_1, aI G (ad 6) 64 (splitP st L), aI G (ad 7) 64 (drpA L t (splitP st L)), aR G (ad 2) 3 (orF ad), oX (ad (15 + L)) 2 [.ref (ad (16 + 3 * L)), .ref (ad (17 + 3 * L)), .ref (ad (18 + 3 * L)), .int (nI 64)], aI G (ad (18 + 3 * L)) 64 (nF (bnT L)), aJ G ou 1 (vp_updL ov 0 ((nI (cntN (crmB L t (splitP st L)) 64)).toInt64))]) hx hb dX0_crumbs_8 hK hP hD hS 10 2 rfl rfl (by omega) (by omega) rfl (fun H locs hP hD hS => ?_)
  refine lv_goto (tgt := 15) hx hb dX0_crumbs_9 (by decide) ?_
  refine lv_iconst (v := nI 0) hx hb dX0_crumbs_15 (by decide) ?_
  rw [hQQ]
  exact vx_ret (rt_i hx hb hr hlk  u_1 dX0_crumbs_16 hP hD hS (by first | exact Nat.le_of_ble_eq_true rfl | (simp only [rm_X0_crumbs_t, rm_X1_crumbs_t]; omega) | omega) (by first | exact Nat.le_of_ble_eq_true rfl | (simp only [rm_X0_crumbs_t, rm_X1_crumbs_t]; omega) | omega) (by rfl))
def rm_X0_cost_t : Room := ({ frames := 13, cells := 0, slots := 0, locals := 441 } : Room)
set_option maxHeartbeats 400000 in
set_option maxRecDepth 100000 in
theorem t_X0_cost_t (l : Launch) (G : GG) (b0 sz : Nat) (h : Nat) (ad : Nat → Nat) (sn : Value) (hsh : Int64) (L : Nat) (stp why : Int32) (st : Nat → Int32) (li : Nat → Int32) (pa : Nat → Int32) (ot : Nat → Int32) (rm : Nat → Int32) (t : Int32) (ou : Nat) (ov : Nat → Int64) (hL1 : 1 ≤ L) (hL : L ≤ 3) (htt : isSh t = true) : CTW l yX0_cost cX0_cost 4 (some FieldType.int) [(0, 9, 12, 15)] (rm_X0_cost_t) G b0 [.ref h, .int t, .ref ou] [oC h ad sn hsh, oX (ad 1) 1 [.ref (ad 11), .int (nI L), .int stp, .int why], aI G (ad 11) 64 st, oX (ad 3) 5 [.ref (ad 12)], aI G (ad 12) 8 li, aI G (ad 6) 64 pa, aI G (ad 7) 64 ot, aI G (ad 8) 64 rm, aR G (ad 2) 3 (orF ad), oX (ad (15 + L)) 2 [.ref (ad (16 + 3 * L)), .ref (ad (17 + 3 * L)), .ref (ad (18 + 3 * L)), .int (nI 64)], aI G (ad (18 + 3 * L)) 64 (nF (bnT L)), aJ G ou 1 ov] sz (Ri G (fun (r_ : Int32) (u : Nat → Int32) => r_ = nI 0) (fun (u : Nat → Int32) => [oC h ad sn hsh, oX (ad 1) 1 [.ref (ad 11), .int (nI L), .int stp, .int why], aI G (ad 11) 64 st, oX (ad 3) 5 [.ref (ad 12)], aI G (ad 12) 8 u, aI G (ad 6) 64 (splitP st L), aI G (ad 7) 64 (drpA L t (splitP st L)), aI G (ad 8) 64 (bkD L t st), aR G (ad 2) 3 (orF ad), oX (ad (15 + L)) 2 [.ref (ad (16 + 3 * L)), .ref (ad (17 + 3 * L)), .ref (ad (18 + 3 * L)), .int (nI 64)], aI G (ad (18 + 3 * L)) 64 (nF (bnT L)), aJ G ou 1 (vp_updL ov 0 ((costI L t st).toInt64))])) := by
  refine CTW.go (by decide) (Nat.le_of_ble_eq_true rfl) (fun p e s m below meth c A ls AR QQ hx hb hr hlk hml hown hnm hts hE hA hAb hsz hP hD hS hl htab hQQ => ?_)
  have hK := hE.1
  have hown : s.vm.findClass RX0 = some m.cls := hown
  have hl : lv_has ls 4 [(0, .ref h), (1, .int t), (2, .ref ou)] := hl
  clear hsz
  refine lv_aload_n hx hb dX0_cost_0 rfl (lv_at hl 2 rfl) ?_
  refine lv_iconst (v := nI 0) hx hb dX0_cost_1 (by decide) ?_
  refine lv_aload_n hx hb dX0_cost_2 rfl (lv_at hl 0 rfl) ?_
  refine lv_iload_n hx hb dX0_cost_3 rfl (lv_at hl 1 rfl) ?_
  refine fin_i (ws' := (fun (u_1 : Nat → Int32) => [oC h ad sn hsh, oX (ad 1) 1 [.ref (ad 11), .int (nI L), .int stp, .int why], aI G (ad 11) 64 st, oX (ad 3) 5 [.ref (ad 12)], aI G (ad 12) 8 u_1, aI G (ad 6) 64 (splitP st L), aI G (ad 7) 64 (drpA L t (splitP st L)), aI G (ad 8) 64 (bkD L t st), aR G (ad 2) 3 (orF ad), oX (ad (15 + L)) 2 [.ref (ad (16 + 3 * L)), .ref (ad (17 + 3 * L)), .ref (ad (18 + 3 * L)), .int (nI 64)], aI G (ad (18 + 3 * L)) 64 (nF (bnT L)), aJ G ou 1 ov])) hA hS hP hD [0, 1, 2, 3, 4, 5, 6, 7, 8, 9, 10] rfl [(true, 0), (true, 1), (true, 2), (true, 3), (true, 4), (true, 5), (true, 6), (true, 7), (true, 8), (true, 9), (true, 10), (false, 11)] (fun _ => rfl) (by decide) (run_V (As := [.int t]) (rest := [.int (nI 0), .ref ou]) (n9 := 1) hx hb hml hown hts hE hAb hl.1 hS hP hD [0, 1, 2, 3, 4, 5, 6, 7, 8, 9, 10] rfl (by decide) (t_X1_cost_t l G b0 _ h ad sn hsh L stp why st li pa ot rm t (by exact hL1) (by exact hL) (by exact htt)) (lw_V q1578 q1579 q1580 q106 q1581) 0 rfl rfl ⟨rfl, by decide, by decide, by decide +kernel⟩ ⟨Nat.le_of_ble_eq_true rfl, Nat.le_of_ble_eq_true rfl⟩ ⟨by first | exact Nat.le_of_ble_eq_true rfl | (simp only [rm_X0_cost_t, rm_X1_cost_t]; omega), by first | exact Nat.le_of_ble_eq_true rfl | (simp only [rm_X0_cost_t, rm_X1_cost_t]; omega)⟩ dX0_cost_4 (Nat.le_of_ble_eq_true rfl) rfl rfl) (fun r_1 u_1 H locs h_1 hP hD hS => ?_)
  have hP : va_P G.1 vwCl [oC h ad sn hsh, oX (ad 1) 1 [.ref (ad 11), .int (nI L), .int stp, .int why], aI G (ad 11) 64 st, oX (ad 3) 5 [.ref (ad 12)], aI G (ad 12) 8 u_1, aI G (ad 6) 64 (splitP st L), aI G (ad 7) 64 (drpA L t (splitP st L)), aI G (ad 8) 64 (bkD L t st), aR G (ad 2) 3 (orF ad), oX (ad (15 + L)) 2 [.ref (ad (16 + 3 * L)), .ref (ad (17 + 3 * L)), .ref (ad (18 + 3 * L)), .int (nI 64)], aI G (ad (18 + 3 * L)) 64 (nF (bnT L)), aJ G ou 1 ov] _ := hP
  have hD : va_D A [oC h ad sn hsh, oX (ad 1) 1 [.ref (ad 11), .int (nI L), .int stp, .int why], aI G (ad 11) 64 st, oX (ad 3) 5 [.ref (ad 12)], aI G (ad 12) 8 u_1, aI G (ad 6) 64 (splitP st L), aI G (ad 7) 64 (drpA L t (splitP st L)), aI G (ad 8) 64 (bkD L t st), aR G (ad 2) 3 (orF ad), oX (ad (15 + L)) 2 [.ref (ad (16 + 3 * L)), .ref (ad (17 + 3 * L)), .ref (ad (18 + 3 * L)), .int (nI 64)], aI G (ad (18 + 3 * L)) 64 (nF (bnT L)), aJ G ou 1 ov] := hD
  have h_1 : r_1 = (costI L t st) := h_1
  rw [h_1]
  refine lv_i2l (v := (costI L t st).toInt64) hx hb dX0_cost_7 rfl ?_
  refine N_last (ws' := [oC h ad sn hsh, oX (ad 1) 1 [.ref (ad 11), .int (nI L), .int stp, .int why], aI G (ad 11) 64 st, oX (ad 3) 5 [.ref (ad 12)], aI G (ad 12) 8 u_1, aI G (ad 6) 64 (splitP st L), aI G (ad 7) 64 (drpA L t (splitP st L)), aI G (ad 8) 64 (bkD L t st), aR G (ad 2) 3 (orF ad), oX (ad (15 + L)) 2 [.ref (ad (16 + 3 * L)), .ref (ad (17 + 3 * L)), .ref (ad (18 + 3 * L)), .int (nI 64)], aI G (ad (18 + 3 * L)) 64 (nF (bnT L)), aJ G ou 1 (vp_updL ov 0 ((costI L t st).toInt64))]) hx hb dX0_cost_8 hK hP hD hS 11 2 rfl rfl (by omega) (by omega) rfl (fun H locs hP hD hS => ?_)
  refine lv_goto (tgt := 15) hx hb dX0_cost_9 (by decide) ?_
  refine lv_iconst (v := nI 0) hx hb dX0_cost_15 (by decide) ?_
  rw [hQQ]
  exact vx_ret (rt_i hx hb hr hlk  u_1 dX0_cost_16 hP hD hS (by first | exact Nat.le_of_ble_eq_true rfl | (simp only [rm_X0_cost_t, rm_X1_cost_t]; omega) | omega) (by first | exact Nat.le_of_ble_eq_true rfl | (simp only [rm_X0_cost_t, rm_X1_cost_t]; omega) | omega) (by rfl))
def rm_X0_worst_t : Room := ({ frames := 13, cells := 0, slots := 0, locals := 441 } : Room)
set_option maxHeartbeats 400000 in
set_option maxRecDepth 100000 in
theorem t_X0_worst_t (l : Launch) (G : GG) (b0 sz : Nat) (h : Nat) (ad : Nat → Nat) (sn : Value) (hsh : Int64) (L : Nat) (stp why : Int32) (st : Nat → Int32) (li : Nat → Int32) (pa : Nat → Int32) (ot : Nat → Int32) (rm : Nat → Int32) (t : Int32) (ou : Nat) (ov : Nat → Int64) (hL1 : 1 ≤ L) (hL : L ≤ 3) (htt : isSh t = true) : CTW l yX0_worst cX0_worst 4 (some FieldType.int) [(0, 9, 12, 15)] (rm_X0_worst_t) G b0 [.ref h, .int t, .ref ou] [oC h ad sn hsh, oX (ad 1) 1 [.ref (ad 11), .int (nI L), .int stp, .int why], aI G (ad 11) 64 st, oX (ad 3) 5 [.ref (ad 12)], aI G (ad 12) 8 li, aI G (ad 6) 64 pa, aI G (ad 7) 64 ot, aI G (ad 8) 64 rm, aR G (ad 2) 3 (orF ad), oX (ad (15 + L)) 2 [.ref (ad (16 + 3 * L)), .ref (ad (17 + 3 * L)), .ref (ad (18 + 3 * L)), .int (nI 64)], aI G (ad (18 + 3 * L)) 64 (nF (bnT L)), aJ G ou 1 ov] sz (Ri G (fun (r_ : Int32) (u : Nat → Int32) => r_ = nI 0) (fun (u : Nat → Int32) => [oC h ad sn hsh, oX (ad 1) 1 [.ref (ad 11), .int (nI L), .int stp, .int why], aI G (ad 11) 64 st, oX (ad 3) 5 [.ref (ad 12)], aI G (ad 12) 8 u, aI G (ad 6) 64 (splitP st L), aI G (ad 7) 64 (drpA L t (splitP st L)), aI G (ad 8) 64 (bkD L t st), aR G (ad 2) 3 (orF ad), oX (ad (15 + L)) 2 [.ref (ad (16 + 3 * L)), .ref (ad (17 + 3 * L)), .ref (ad (18 + 3 * L)), .int (nI 64)], aI G (ad (18 + 3 * L)) 64 (nF (bnT L)), aJ G ou 1 (vp_updL ov 0 ((wrsI (cosF (bkD L t st) st) 64).toInt64))])) := by
  refine CTW.go (by decide) (Nat.le_of_ble_eq_true rfl) (fun p e s m below meth c A ls AR QQ hx hb hr hlk hml hown hnm hts hE hA hAb hsz hP hD hS hl htab hQQ => ?_)
  have hK := hE.1
  have hown : s.vm.findClass RX0 = some m.cls := hown
  have hl : lv_has ls 4 [(0, .ref h), (1, .int t), (2, .ref ou)] := hl
  clear hsz
  refine lv_aload_n hx hb dX0_worst_0 rfl (lv_at hl 2 rfl) ?_
  refine lv_iconst (v := nI 0) hx hb dX0_worst_1 (by decide) ?_
  refine lv_aload_n hx hb dX0_worst_2 rfl (lv_at hl 0 rfl) ?_
  refine lv_iload_n hx hb dX0_worst_3 rfl (lv_at hl 1 rfl) ?_
  refine fin_i (ws' := (fun (u_1 : Nat → Int32) => [oC h ad sn hsh, oX (ad 1) 1 [.ref (ad 11), .int (nI L), .int stp, .int why], aI G (ad 11) 64 st, oX (ad 3) 5 [.ref (ad 12)], aI G (ad 12) 8 u_1, aI G (ad 6) 64 (splitP st L), aI G (ad 7) 64 (drpA L t (splitP st L)), aI G (ad 8) 64 (bkD L t st), aR G (ad 2) 3 (orF ad), oX (ad (15 + L)) 2 [.ref (ad (16 + 3 * L)), .ref (ad (17 + 3 * L)), .ref (ad (18 + 3 * L)), .int (nI 64)], aI G (ad (18 + 3 * L)) 64 (nF (bnT L)), aJ G ou 1 ov])) hA hS hP hD [0, 1, 2, 3, 4, 5, 6, 7, 8, 9, 10] rfl [(true, 0), (true, 1), (true, 2), (true, 3), (true, 4), (true, 5), (true, 6), (true, 7), (true, 8), (true, 9), (true, 10), (false, 11)] (fun _ => rfl) (by decide) (run_V (As := [.int t]) (rest := [.int (nI 0), .ref ou]) (n9 := 1) hx hb hml hown hts hE hAb hl.1 hS hP hD [0, 1, 2, 3, 4, 5, 6, 7, 8, 9, 10] rfl (by decide) (t_X1_worst_t l G b0 _ h ad sn hsh L stp why st li pa ot rm t (by exact hL1) (by exact hL) (by exact htt)) (lw_V q1585 q1586 q1587 q106 q1588) 0 rfl rfl ⟨rfl, by decide, by decide, by decide +kernel⟩ ⟨Nat.le_of_ble_eq_true rfl, Nat.le_of_ble_eq_true rfl⟩ ⟨by first | exact Nat.le_of_ble_eq_true rfl | (simp only [rm_X0_worst_t, rm_X1_worst_t]; omega), by first | exact Nat.le_of_ble_eq_true rfl | (simp only [rm_X0_worst_t, rm_X1_worst_t]; omega)⟩ dX0_worst_4 (Nat.le_of_ble_eq_true rfl) rfl rfl) (fun r_1 u_1 H locs h_1 hP hD hS => ?_)
  have hP : va_P G.1 vwCl [oC h ad sn hsh, oX (ad 1) 1 [.ref (ad 11), .int (nI L), .int stp, .int why], aI G (ad 11) 64 st, oX (ad 3) 5 [.ref (ad 12)], aI G (ad 12) 8 u_1, aI G (ad 6) 64 (splitP st L), aI G (ad 7) 64 (drpA L t (splitP st L)), aI G (ad 8) 64 (bkD L t st), aR G (ad 2) 3 (orF ad), oX (ad (15 + L)) 2 [.ref (ad (16 + 3 * L)), .ref (ad (17 + 3 * L)), .ref (ad (18 + 3 * L)), .int (nI 64)], aI G (ad (18 + 3 * L)) 64 (nF (bnT L)), aJ G ou 1 ov] _ := hP
  have hD : va_D A [oC h ad sn hsh, oX (ad 1) 1 [.ref (ad 11), .int (nI L), .int stp, .int why], aI G (ad 11) 64 st, oX (ad 3) 5 [.ref (ad 12)], aI G (ad 12) 8 u_1, aI G (ad 6) 64 (splitP st L), aI G (ad 7) 64 (drpA L t (splitP st L)), aI G (ad 8) 64 (bkD L t st), aR G (ad 2) 3 (orF ad), oX (ad (15 + L)) 2 [.ref (ad (16 + 3 * L)), .ref (ad (17 + 3 * L)), .ref (ad (18 + 3 * L)), .int (nI 64)], aI G (ad (18 + 3 * L)) 64 (nF (bnT L)), aJ G ou 1 ov] := hD
  have h_1 : r_1 = (wrsI (cosF (bkD L t st) st) 64) := h_1
  rw [h_1]
  refine lv_i2l (v := (wrsI (cosF (bkD L t st) st) 64).toInt64) hx hb dX0_worst_7 rfl ?_
  refine N_last (ws' := [oC h ad sn hsh, oX (ad 1) 1 [.ref (ad 11), .int (nI L), .int stp, .int why], aI G (ad 11) 64 st, oX (ad 3) 5 [.ref (ad 12)], aI G (ad 12) 8 u_1, aI G (ad 6) 64 (splitP st L), aI G (ad 7) 64 (drpA L t (splitP st L)), aI G (ad 8) 64 (bkD L t st), aR G (ad 2) 3 (orF ad), oX (ad (15 + L)) 2 [.ref (ad (16 + 3 * L)), .ref (ad (17 + 3 * L)), .ref (ad (18 + 3 * L)), .int (nI 64)], aI G (ad (18 + 3 * L)) 64 (nF (bnT L)), aJ G ou 1 (vp_updL ov 0 ((wrsI (cosF (bkD L t st) st) 64).toInt64))]) hx hb dX0_worst_8 hK hP hD hS 11 2 rfl rfl (by omega) (by omega) rfl (fun H locs hP hD hS => ?_)
  refine lv_goto (tgt := 15) hx hb dX0_worst_9 (by decide) ?_
  refine lv_iconst (v := nI 0) hx hb dX0_worst_15 (by decide) ?_
  rw [hQQ]
  exact vx_ret (rt_i hx hb hr hlk  u_1 dX0_worst_16 hP hD hS (by first | exact Nat.le_of_ble_eq_true rfl | (simp only [rm_X0_worst_t, rm_X1_worst_t]; omega) | omega) (by first | exact Nat.le_of_ble_eq_true rfl | (simp only [rm_X0_worst_t, rm_X1_worst_t]; omega) | omega) (by rfl))
def rm_X0_thresholdFor_t : Room := ({ frames := 13, cells := 0, slots := 0, locals := 441 } : Room)
set_option maxHeartbeats 400000 in
set_option maxRecDepth 100000 in
theorem t_X0_thresholdFor_t (l : Launch) (G : GG) (b0 sz : Nat) (h : Nat) (ad : Nat → Nat) (sn : Value) (hsh : Int64) (L : Nat) (stp why : Int32) (st : Nat → Int32) (li : Nat → Int32) (pa : Nat → Int32) (ot : Nat → Int32) (rm : Nat → Int32) (t : Int32) (ou : Nat) (ov : Nat → Int64) (hL1 : 1 ≤ L) (hL : L ≤ 3) (htt : inB t (nI 0) (nI 16320) = true) (hc0 : ¬ t < costI L (nI 0) st) : CTW l yX0_thresholdFor cX0_thresholdFor 4 (some FieldType.int) [(0, 9, 12, 15)] (rm_X0_thresholdFor_t) G b0 [.ref h, .int t, .ref ou] [oC h ad sn hsh, oX (ad 1) 1 [.ref (ad 11), .int (nI L), .int stp, .int why], aI G (ad 11) 64 st, oX (ad 3) 5 [.ref (ad 12)], aI G (ad 12) 8 li, aI G (ad 6) 64 pa, aI G (ad 7) 64 ot, aI G (ad 8) 64 rm, aR G (ad 2) 3 (orF ad), oX (ad (15 + L)) 2 [.ref (ad (16 + 3 * L)), .ref (ad (17 + 3 * L)), .ref (ad (18 + 3 * L)), .int (nI 64)], aI G (ad (18 + 3 * L)) 64 (nF (bnT L)), aJ G ou 1 ov] sz (Ri G (fun (r_ : Int32) (u : (Nat → Int32) × (Nat → Int32) × (Nat → Int32) × (Nat → Int32)) => r_ = nI 0) (fun (u : (Nat → Int32) × (Nat → Int32) × (Nat → Int32) × (Nat → Int32)) => [oC h ad sn hsh, oX (ad 1) 1 [.ref (ad 11), .int (nI L), .int stp, .int why], aI G (ad 11) 64 st, oX (ad 3) 5 [.ref (ad 12)], aI G (ad 12) 8 u.2.1, aI G (ad 6) 64 u.1, aI G (ad 7) 64 u.2.2.1, aI G (ad 8) 64 u.2.2.2, aR G (ad 2) 3 (orF ad), oX (ad (15 + L)) 2 [.ref (ad (16 + 3 * L)), .ref (ad (17 + 3 * L)), .ref (ad (18 + 3 * L)), .int (nI 64)], aI G (ad (18 + 3 * L)) 64 (nF (bnT L)), aJ G ou 1 (vp_updL ov 0 ((nI (bstN L t st 256)).toInt64))])) := by
  refine CTW.go (by decide) (Nat.le_of_ble_eq_true rfl) (fun p e s m below meth c A ls AR QQ hx hb hr hlk hml hown hnm hts hE hA hAb hsz hP hD hS hl htab hQQ => ?_)
  have hK := hE.1
  have hown : s.vm.findClass RX0 = some m.cls := hown
  have hl : lv_has ls 4 [(0, .ref h), (1, .int t), (2, .ref ou)] := hl
  clear hsz
  refine lv_aload_n hx hb dX0_thresholdFor_0 rfl (lv_at hl 2 rfl) ?_
  refine lv_iconst (v := nI 0) hx hb dX0_thresholdFor_1 (by decide) ?_
  refine lv_aload_n hx hb dX0_thresholdFor_2 rfl (lv_at hl 0 rfl) ?_
  refine lv_iload_n hx hb dX0_thresholdFor_3 rfl (lv_at hl 1 rfl) ?_
  refine fin_i (ws' := (fun (u_1 : (Nat → Int32) × (Nat → Int32) × (Nat → Int32) × (Nat → Int32)) => [oC h ad sn hsh, oX (ad 1) 1 [.ref (ad 11), .int (nI L), .int stp, .int why], aI G (ad 11) 64 st, oX (ad 3) 5 [.ref (ad 12)], aI G (ad 12) 8 u_1.2.1, aI G (ad 6) 64 u_1.1, aI G (ad 7) 64 u_1.2.2.1, aI G (ad 8) 64 u_1.2.2.2, aR G (ad 2) 3 (orF ad), oX (ad (15 + L)) 2 [.ref (ad (16 + 3 * L)), .ref (ad (17 + 3 * L)), .ref (ad (18 + 3 * L)), .int (nI 64)], aI G (ad (18 + 3 * L)) 64 (nF (bnT L)), aJ G ou 1 ov])) hA hS hP hD [0, 1, 2, 3, 4, 5, 6, 7, 8, 9, 10] rfl [(true, 0), (true, 1), (true, 2), (true, 3), (true, 4), (true, 5), (true, 6), (true, 7), (true, 8), (true, 9), (true, 10), (false, 11)] (fun _ => rfl) (by decide) (run_V (As := [.int t]) (rest := [.int (nI 0), .ref ou]) (n9 := 1) hx hb hml hown hts hE hAb hl.1 hS hP hD [0, 1, 2, 3, 4, 5, 6, 7, 8, 9, 10] rfl (by decide) (t_X1_thresholdFor_t l G b0 _ h ad sn hsh L stp why st li pa ot rm t (by exact hL1) (by exact hL) (by exact htt) (by exact hc0)) (lw_V q1592 q1593 q1594 q106 q1595) 0 rfl rfl ⟨rfl, by decide, by decide, by decide +kernel⟩ ⟨Nat.le_of_ble_eq_true rfl, Nat.le_of_ble_eq_true rfl⟩ ⟨by first | exact Nat.le_of_ble_eq_true rfl | (simp only [rm_X0_thresholdFor_t, rm_X1_thresholdFor_t]; omega), by first | exact Nat.le_of_ble_eq_true rfl | (simp only [rm_X0_thresholdFor_t, rm_X1_thresholdFor_t]; omega)⟩ dX0_thresholdFor_4 (Nat.le_of_ble_eq_true rfl) rfl rfl) (fun r_1 u_1 H locs h_1 hP hD hS => ?_)
  have hP : va_P G.1 vwCl [oC h ad sn hsh, oX (ad 1) 1 [.ref (ad 11), .int (nI L), .int stp, .int why], aI G (ad 11) 64 st, oX (ad 3) 5 [.ref (ad 12)], aI G (ad 12) 8 u_1.2.1, aI G (ad 6) 64 u_1.1, aI G (ad 7) 64 u_1.2.2.1, aI G (ad 8) 64 u_1.2.2.2, aR G (ad 2) 3 (orF ad), oX (ad (15 + L)) 2 [.ref (ad (16 + 3 * L)), .ref (ad (17 + 3 * L)), .ref (ad (18 + 3 * L)), .int (nI 64)], aI G (ad (18 + 3 * L)) 64 (nF (bnT L)), aJ G ou 1 ov] _ := hP
  have hD : va_D A [oC h ad sn hsh, oX (ad 1) 1 [.ref (ad 11), .int (nI L), .int stp, .int why], aI G (ad 11) 64 st, oX (ad 3) 5 [.ref (ad 12)], aI G (ad 12) 8 u_1.2.1, aI G (ad 6) 64 u_1.1, aI G (ad 7) 64 u_1.2.2.1, aI G (ad 8) 64 u_1.2.2.2, aR G (ad 2) 3 (orF ad), oX (ad (15 + L)) 2 [.ref (ad (16 + 3 * L)), .ref (ad (17 + 3 * L)), .ref (ad (18 + 3 * L)), .int (nI 64)], aI G (ad (18 + 3 * L)) 64 (nF (bnT L)), aJ G ou 1 ov] := hD
  have h_1 : r_1 = (nI (bstN L t st 256)) := h_1
  rw [h_1]
  refine lv_i2l (v := (nI (bstN L t st 256)).toInt64) hx hb dX0_thresholdFor_7 rfl ?_
  refine N_last (ws' := [oC h ad sn hsh, oX (ad 1) 1 [.ref (ad 11), .int (nI L), .int stp, .int why], aI G (ad 11) 64 st, oX (ad 3) 5 [.ref (ad 12)], aI G (ad 12) 8 u_1.2.1, aI G (ad 6) 64 u_1.1, aI G (ad 7) 64 u_1.2.2.1, aI G (ad 8) 64 u_1.2.2.2, aR G (ad 2) 3 (orF ad), oX (ad (15 + L)) 2 [.ref (ad (16 + 3 * L)), .ref (ad (17 + 3 * L)), .ref (ad (18 + 3 * L)), .int (nI 64)], aI G (ad (18 + 3 * L)) 64 (nF (bnT L)), aJ G ou 1 (vp_updL ov 0 ((nI (bstN L t st 256)).toInt64))]) hx hb dX0_thresholdFor_8 hK hP hD hS 11 2 rfl rfl (by omega) (by omega) rfl (fun H locs hP hD hS => ?_)
  refine lv_goto (tgt := 15) hx hb dX0_thresholdFor_9 (by decide) ?_
  refine lv_iconst (v := nI 0) hx hb dX0_thresholdFor_15 (by decide) ?_
  rw [hQQ]
  exact vx_ret (rt_i hx hb hr hlk  u_1 dX0_thresholdFor_16 hP hD hS (by first | exact Nat.le_of_ble_eq_true rfl | (simp only [rm_X0_thresholdFor_t, rm_X1_thresholdFor_t]; omega) | omega) (by first | exact Nat.le_of_ble_eq_true rfl | (simp only [rm_X0_thresholdFor_t, rm_X1_thresholdFor_t]; omega) | omega) (by rfl))
def rm_X0_costOfPlanes_t : Room := ({ frames := 13, cells := 0, slots := 0, locals := 441 } : Room)
set_option maxHeartbeats 400000 in
set_option maxRecDepth 100000 in
theorem t_X0_costOfPlanes_t (l : Launch) (G : GG) (b0 sz : Nat) (h : Nat) (ad : Nat → Nat) (sn : Value) (hsh : Int64) (L : Nat) (stp why : Int32) (st : Nat → Int32) (li : Nat → Int32) (pa : Nat → Int32) (ot : Nat → Int32) (rm : Nat → Int32) (pl : Nat) (ou : Nat) (ov : Nat → Int64) (hL1 : 1 ≤ L) (hL : L ≤ 3) (hpl : pl ≤ 7) : CTW l yX0_costOfPlanes cX0_costOfPlanes 4 (some FieldType.int) [(0, 9, 12, 15)] (rm_X0_costOfPlanes_t) G b0 [.ref h, .int (nI pl), .ref ou] [oC h ad sn hsh, oX (ad 1) 1 [.ref (ad 11), .int (nI L), .int stp, .int why], aI G (ad 11) 64 st, oX (ad 3) 5 [.ref (ad 12)], aI G (ad 12) 8 li, aI G (ad 6) 64 pa, aI G (ad 7) 64 ot, aI G (ad 8) 64 rm, aR G (ad 2) 3 (orF ad), oX (ad (15 + L)) 2 [.ref (ad (16 + 3 * L)), .ref (ad (17 + 3 * L)), .ref (ad (18 + 3 * L)), .int (nI 64)], aI G (ad (18 + 3 * L)) 64 (nF (bnT L)), aJ G ou 1 ov] sz (Ri G (fun (r_ : Int32) (u : Nat → Int32) => r_ = nI 0) (fun (u : Nat → Int32) => [oC h ad sn hsh, oX (ad 1) 1 [.ref (ad 11), .int (nI L), .int stp, .int why], aI G (ad 11) 64 st, oX (ad 3) 5 [.ref (ad 12)], aI G (ad 12) 8 u, aI G (ad 6) 64 (splitP st L), aI G (ad 7) 64 (plnA L pl (splitP st L)), aI G (ad 8) 64 (bkP L pl st), aR G (ad 2) 3 (orF ad), oX (ad (15 + L)) 2 [.ref (ad (16 + 3 * L)), .ref (ad (17 + 3 * L)), .ref (ad (18 + 3 * L)), .int (nI 64)], aI G (ad (18 + 3 * L)) 64 (nF (bnT L)), aJ G ou 1 (vp_updL ov 0 ((l_sum (cosF (bkP L pl st) st) 64).toInt64))])) := by
  refine CTW.go (by decide) (Nat.le_of_ble_eq_true rfl) (fun p e s m below meth c A ls AR QQ hx hb hr hlk hml hown hnm hts hE hA hAb hsz hP hD hS hl htab hQQ => ?_)
  have hK := hE.1
  have hown : s.vm.findClass RX0 = some m.cls := hown
  have hl : lv_has ls 4 [(0, .ref h), (1, .int (nI pl)), (2, .ref ou)] := hl
  clear hsz
  refine lv_aload_n hx hb dX0_costOfPlanes_0 rfl (lv_at hl 2 rfl) ?_
  refine lv_iconst (v := nI 0) hx hb dX0_costOfPlanes_1 (by decide) ?_
  refine lv_aload_n hx hb dX0_costOfPlanes_2 rfl (lv_at hl 0 rfl) ?_
  refine lv_iload_n hx hb dX0_costOfPlanes_3 rfl (lv_at hl 1 rfl) ?_
  refine fin_i (ws' := (fun (u_1 : Nat → Int32) => [oC h ad sn hsh, oX (ad 1) 1 [.ref (ad 11), .int (nI L), .int stp, .int why], aI G (ad 11) 64 st, oX (ad 3) 5 [.ref (ad 12)], aI G (ad 12) 8 u_1, aI G (ad 6) 64 (splitP st L), aI G (ad 7) 64 (plnA L pl (splitP st L)), aI G (ad 8) 64 (bkP L pl st), aR G (ad 2) 3 (orF ad), oX (ad (15 + L)) 2 [.ref (ad (16 + 3 * L)), .ref (ad (17 + 3 * L)), .ref (ad (18 + 3 * L)), .int (nI 64)], aI G (ad (18 + 3 * L)) 64 (nF (bnT L)), aJ G ou 1 ov])) hA hS hP hD [0, 1, 2, 3, 4, 5, 6, 7, 8, 9, 10] rfl [(true, 0), (true, 1), (true, 2), (true, 3), (true, 4), (true, 5), (true, 6), (true, 7), (true, 8), (true, 9), (true, 10), (false, 11)] (fun _ => rfl) (by decide) (run_V (As := [.int (nI pl)]) (rest := [.int (nI 0), .ref ou]) (n9 := 1) hx hb hml hown hts hE hAb hl.1 hS hP hD [0, 1, 2, 3, 4, 5, 6, 7, 8, 9, 10] rfl (by decide) (t_X1_costOfPlanes_t l G b0 _ h ad sn hsh L stp why st li pa ot rm pl (by exact hL1) (by exact hL) (by exact hpl)) (lw_V q1599 q1600 q1601 q106 q1602) 0 rfl rfl ⟨rfl, by decide, by decide, by decide +kernel⟩ ⟨Nat.le_of_ble_eq_true rfl, Nat.le_of_ble_eq_true rfl⟩ ⟨by first | exact Nat.le_of_ble_eq_true rfl | (simp only [rm_X0_costOfPlanes_t, rm_X1_costOfPlanes_t]; omega), by first | exact Nat.le_of_ble_eq_true rfl | (simp only [rm_X0_costOfPlanes_t, rm_X1_costOfPlanes_t]; omega)⟩ dX0_costOfPlanes_4 (Nat.le_of_ble_eq_true rfl) rfl rfl) (fun r_1 u_1 H locs h_1 hP hD hS => ?_)
  have hP : va_P G.1 vwCl [oC h ad sn hsh, oX (ad 1) 1 [.ref (ad 11), .int (nI L), .int stp, .int why], aI G (ad 11) 64 st, oX (ad 3) 5 [.ref (ad 12)], aI G (ad 12) 8 u_1, aI G (ad 6) 64 (splitP st L), aI G (ad 7) 64 (plnA L pl (splitP st L)), aI G (ad 8) 64 (bkP L pl st), aR G (ad 2) 3 (orF ad), oX (ad (15 + L)) 2 [.ref (ad (16 + 3 * L)), .ref (ad (17 + 3 * L)), .ref (ad (18 + 3 * L)), .int (nI 64)], aI G (ad (18 + 3 * L)) 64 (nF (bnT L)), aJ G ou 1 ov] _ := hP
  have hD : va_D A [oC h ad sn hsh, oX (ad 1) 1 [.ref (ad 11), .int (nI L), .int stp, .int why], aI G (ad 11) 64 st, oX (ad 3) 5 [.ref (ad 12)], aI G (ad 12) 8 u_1, aI G (ad 6) 64 (splitP st L), aI G (ad 7) 64 (plnA L pl (splitP st L)), aI G (ad 8) 64 (bkP L pl st), aR G (ad 2) 3 (orF ad), oX (ad (15 + L)) 2 [.ref (ad (16 + 3 * L)), .ref (ad (17 + 3 * L)), .ref (ad (18 + 3 * L)), .int (nI 64)], aI G (ad (18 + 3 * L)) 64 (nF (bnT L)), aJ G ou 1 ov] := hD
  have h_1 : r_1 = (l_sum (cosF (bkP L pl st) st) 64) := h_1
  rw [h_1]
  refine lv_i2l (v := (l_sum (cosF (bkP L pl st) st) 64).toInt64) hx hb dX0_costOfPlanes_7 rfl ?_
  refine N_last (ws' := [oC h ad sn hsh, oX (ad 1) 1 [.ref (ad 11), .int (nI L), .int stp, .int why], aI G (ad 11) 64 st, oX (ad 3) 5 [.ref (ad 12)], aI G (ad 12) 8 u_1, aI G (ad 6) 64 (splitP st L), aI G (ad 7) 64 (plnA L pl (splitP st L)), aI G (ad 8) 64 (bkP L pl st), aR G (ad 2) 3 (orF ad), oX (ad (15 + L)) 2 [.ref (ad (16 + 3 * L)), .ref (ad (17 + 3 * L)), .ref (ad (18 + 3 * L)), .int (nI 64)], aI G (ad (18 + 3 * L)) 64 (nF (bnT L)), aJ G ou 1 (vp_updL ov 0 ((l_sum (cosF (bkP L pl st) st) 64).toInt64))]) hx hb dX0_costOfPlanes_8 hK hP hD hS 11 2 rfl rfl (by omega) (by omega) rfl (fun H locs hP hD hS => ?_)
  refine lv_goto (tgt := 15) hx hb dX0_costOfPlanes_9 (by decide) ?_
  refine lv_iconst (v := nI 0) hx hb dX0_costOfPlanes_15 (by decide) ?_
  rw [hQQ]
  exact vx_ret (rt_i hx hb hr hlk  u_1 dX0_costOfPlanes_16 hP hD hS (by first | exact Nat.le_of_ble_eq_true rfl | (simp only [rm_X0_costOfPlanes_t, rm_X1_costOfPlanes_t]; omega) | omega) (by first | exact Nat.le_of_ble_eq_true rfl | (simp only [rm_X0_costOfPlanes_t, rm_X1_costOfPlanes_t]; omega) | omega) (by rfl))
def rm_X0_trees_t : Room := ({ frames := 13, cells := 0, slots := 0, locals := 441 } : Room)
set_option maxHeartbeats 400000 in
set_option maxRecDepth 100000 in
theorem t_X0_trees_t (l : Launch) (G : GG) (b0 sz : Nat) (h : Nat) (ad : Nat → Nat) (sn : Value) (hsh : Int64) (L : Nat) (stp why : Int32) (st : Nat → Int32) (li : Nat → Int32) (pa : Nat → Int32) (tq : Option Nat) (tl : Nat) (tt : Int32) (t : Int32) (ou : Nat) (ov : Nat → Int64) (hL1 : 1 ≤ L) (hL : L ≤ 3) (htt : isSh t = true) : CTW l yX0_trees cX0_trees 4 (some FieldType.int) [(0, 9, 12, 15)] (rm_X0_trees_t) G b0 [.ref h, .int t, .ref ou] [oC h ad sn hsh, oX (ad 1) 1 [.ref (ad 11), .int (nI L), .int stp, .int why], aI G (ad 11) 64 st, oX (ad 3) 5 [.ref (ad 12)], aI G (ad 12) 8 li, aI G (ad 6) 64 pa, oX (ad 4) 6 [.ref (ad 13), va_rf tq, .int (nI tl), .int tt], aJ G ou 1 ov] sz (Ri G (fun (r_ : Int32) (u : Nat → Int32) => r_ = nI 0) (fun (u : Nat → Int32) => [oC h ad sn hsh, oX (ad 1) 1 [.ref (ad 11), .int (nI L), .int stp, .int why], aI G (ad 11) 64 st, oX (ad 3) 5 [.ref (ad 12)], aI G (ad 12) 8 u, aI G (ad 6) 64 (splitP st L), oX (ad 4) 6 [.ref (ad 13), .ref (ad 6), .int (nI L), .int t], aJ G ou 1 (vp_updL ov 0 ((nI (faN t (splitP st L) L 64)).toInt64))])) := by
  refine CTW.go (by decide) (Nat.le_of_ble_eq_true rfl) (fun p e s m below meth c A ls AR QQ hx hb hr hlk hml hown hnm hts hE hA hAb hsz hP hD hS hl htab hQQ => ?_)
  have hK := hE.1
  have hown : s.vm.findClass RX0 = some m.cls := hown
  have hl : lv_has ls 4 [(0, .ref h), (1, .int t), (2, .ref ou)] := hl
  clear hsz
  refine lv_aload_n hx hb dX0_trees_0 rfl (lv_at hl 2 rfl) ?_
  refine lv_iconst (v := nI 0) hx hb dX0_trees_1 (by decide) ?_
  refine lv_aload_n hx hb dX0_trees_2 rfl (lv_at hl 0 rfl) ?_
  refine lv_iload_n hx hb dX0_trees_3 rfl (lv_at hl 1 rfl) ?_
  refine fin_i (ws' := (fun (u_1 : Nat → Int32) => [oC h ad sn hsh, oX (ad 1) 1 [.ref (ad 11), .int (nI L), .int stp, .int why], aI G (ad 11) 64 st, oX (ad 3) 5 [.ref (ad 12)], aI G (ad 12) 8 u_1, aI G (ad 6) 64 (splitP st L), oX (ad 4) 6 [.ref (ad 13), .ref (ad 6), .int (nI L), .int t], aJ G ou 1 ov])) hA hS hP hD [0, 1, 2, 3, 4, 5, 6] rfl [(true, 0), (true, 1), (true, 2), (true, 3), (true, 4), (true, 5), (true, 6), (false, 7)] (fun _ => rfl) (by decide) (run_V (As := [.int t]) (rest := [.int (nI 0), .ref ou]) (n9 := 1) hx hb hml hown hts hE hAb hl.1 hS hP hD [0, 1, 2, 3, 4, 5, 6] rfl (by decide) (t_X1_trees_t l G b0 _ h ad sn hsh L stp why st li pa tq tl tt t (by exact hL1) (by exact hL) (by exact htt)) (lw_V q1606 q1607 q1608 q106 q1609) 0 rfl rfl ⟨rfl, by decide, by decide, by decide +kernel⟩ ⟨Nat.le_of_ble_eq_true rfl, Nat.le_of_ble_eq_true rfl⟩ ⟨by first | exact Nat.le_of_ble_eq_true rfl | (simp only [rm_X0_trees_t, rm_X1_trees_t]; omega), by first | exact Nat.le_of_ble_eq_true rfl | (simp only [rm_X0_trees_t, rm_X1_trees_t]; omega)⟩ dX0_trees_4 (Nat.le_of_ble_eq_true rfl) rfl rfl) (fun r_1 u_1 H locs h_1 hP hD hS => ?_)
  have hP : va_P G.1 vwCl [oC h ad sn hsh, oX (ad 1) 1 [.ref (ad 11), .int (nI L), .int stp, .int why], aI G (ad 11) 64 st, oX (ad 3) 5 [.ref (ad 12)], aI G (ad 12) 8 u_1, aI G (ad 6) 64 (splitP st L), oX (ad 4) 6 [.ref (ad 13), .ref (ad 6), .int (nI L), .int t], aJ G ou 1 ov] _ := hP
  have hD : va_D A [oC h ad sn hsh, oX (ad 1) 1 [.ref (ad 11), .int (nI L), .int stp, .int why], aI G (ad 11) 64 st, oX (ad 3) 5 [.ref (ad 12)], aI G (ad 12) 8 u_1, aI G (ad 6) 64 (splitP st L), oX (ad 4) 6 [.ref (ad 13), .ref (ad 6), .int (nI L), .int t], aJ G ou 1 ov] := hD
  have h_1 : r_1 = (nI (faN t (splitP st L) L 64)) := h_1
  rw [h_1]
  refine lv_i2l (v := (nI (faN t (splitP st L) L 64)).toInt64) hx hb dX0_trees_7 rfl ?_
  refine N_last (ws' := [oC h ad sn hsh, oX (ad 1) 1 [.ref (ad 11), .int (nI L), .int stp, .int why], aI G (ad 11) 64 st, oX (ad 3) 5 [.ref (ad 12)], aI G (ad 12) 8 u_1, aI G (ad 6) 64 (splitP st L), oX (ad 4) 6 [.ref (ad 13), .ref (ad 6), .int (nI L), .int t], aJ G ou 1 (vp_updL ov 0 ((nI (faN t (splitP st L) L 64)).toInt64))]) hx hb dX0_trees_8 hK hP hD hS 7 2 rfl rfl (by omega) (by omega) rfl (fun H locs hP hD hS => ?_)
  refine lv_goto (tgt := 15) hx hb dX0_trees_9 (by decide) ?_
  refine lv_iconst (v := nI 0) hx hb dX0_trees_15 (by decide) ?_
  rw [hQQ]
  exact vx_ret (rt_i hx hb hr hlk  u_1 dX0_trees_16 hP hD hS (by first | exact Nat.le_of_ble_eq_true rfl | (simp only [rm_X0_trees_t, rm_X1_trees_t]; omega) | omega) (by first | exact Nat.le_of_ble_eq_true rfl | (simp only [rm_X0_trees_t, rm_X1_trees_t]; omega) | omega) (by rfl))
def rm_X0_treesFromBelow_t : Room := ({ frames := 13, cells := 0, slots := 0, locals := 441 } : Room)
set_option maxHeartbeats 400000 in
set_option maxRecDepth 100000 in
theorem t_X0_treesFromBelow_t (l : Launch) (G : GG) (b0 sz : Nat) (h : Nat) (ad : Nat → Nat) (sn : Value) (hsh : Int64) (L : Nat) (stp why : Int32) (st : Nat → Int32) (li : Nat → Int32) (pa : Nat → Int32) (tq : Option Nat) (tl : Nat) (tt : Int32) (sm : Nat → Bool) (t : Int32) (ou : Nat) (ov : Nat → Int64) (hL1 : 1 ≤ L) (hL : L ≤ 3) (htt : isSh t = true) : CTW l yX0_treesFromBelow cX0_treesFromBelow 4 (some FieldType.int) [(0, 9, 12, 15)] (rm_X0_treesFromBelow_t) G b0 [.ref h, .int t, .ref ou] [oC h ad sn hsh, oX (ad 1) 1 [.ref (ad 11), .int (nI L), .int stp, .int why], aI G (ad 11) 64 st, oX (ad 3) 5 [.ref (ad 12)], aI G (ad 12) 8 li, aI G (ad 6) 64 pa, oX (ad 4) 6 [.ref (ad 13), va_rf tq, .int (nI tl), .int tt], aZ G (ad 13) 64 (bF sm), aJ G ou 1 ov] sz (Ri G (fun (r_ : Int32) (u : Nat → Int32) => r_ = nI 0) (fun (u : Nat → Int32) => [oC h ad sn hsh, oX (ad 1) 1 [.ref (ad 11), .int (nI L), .int stp, .int why], aI G (ad 11) 64 st, oX (ad 3) 5 [.ref (ad 12)], aI G (ad 12) 8 u, aI G (ad 6) 64 (splitP st L), oX (ad 4) 6 [.ref (ad 13), .ref (ad 6), .int (nI L), .int t], aZ G (ad 13) 64 (bF (fbJ t (splitP st L) L sm L)), aJ G ou 1 (vp_updL ov 0 ((nI (fbN (fbJ t (splitP st L) L sm L) L 64)).toInt64))])) := by
  refine CTW.go (by decide) (Nat.le_of_ble_eq_true rfl) (fun p e s m below meth c A ls AR QQ hx hb hr hlk hml hown hnm hts hE hA hAb hsz hP hD hS hl htab hQQ => ?_)
  have hK := hE.1
  have hown : s.vm.findClass RX0 = some m.cls := hown
  have hl : lv_has ls 4 [(0, .ref h), (1, .int t), (2, .ref ou)] := hl
  clear hsz
  refine lv_aload_n hx hb dX0_treesFromBelow_0 rfl (lv_at hl 2 rfl) ?_
  refine lv_iconst (v := nI 0) hx hb dX0_treesFromBelow_1 (by decide) ?_
  refine lv_aload_n hx hb dX0_treesFromBelow_2 rfl (lv_at hl 0 rfl) ?_
  refine lv_iload_n hx hb dX0_treesFromBelow_3 rfl (lv_at hl 1 rfl) ?_
  refine fin_i (ws' := (fun (u_1 : Nat → Int32) => [oC h ad sn hsh, oX (ad 1) 1 [.ref (ad 11), .int (nI L), .int stp, .int why], aI G (ad 11) 64 st, oX (ad 3) 5 [.ref (ad 12)], aI G (ad 12) 8 u_1, aI G (ad 6) 64 (splitP st L), oX (ad 4) 6 [.ref (ad 13), .ref (ad 6), .int (nI L), .int t], aZ G (ad 13) 64 (bF (fbJ t (splitP st L) L sm L)), aJ G ou 1 ov])) hA hS hP hD [0, 1, 2, 3, 4, 5, 6, 7] rfl [(true, 0), (true, 1), (true, 2), (true, 3), (true, 4), (true, 5), (true, 6), (true, 7), (false, 8)] (fun _ => rfl) (by decide) (run_V (As := [.int t]) (rest := [.int (nI 0), .ref ou]) (n9 := 1) hx hb hml hown hts hE hAb hl.1 hS hP hD [0, 1, 2, 3, 4, 5, 6, 7] rfl (by decide) (t_X1_treesFromBelow_t l G b0 _ h ad sn hsh L stp why st li pa tq tl tt sm t (by exact hL1) (by exact hL) (by exact htt)) (lw_V q1613 q1614 q1615 q106 q1616) 0 rfl rfl ⟨rfl, by decide, by decide, by decide +kernel⟩ ⟨Nat.le_of_ble_eq_true rfl, Nat.le_of_ble_eq_true rfl⟩ ⟨by first | exact Nat.le_of_ble_eq_true rfl | (simp only [rm_X0_treesFromBelow_t, rm_X1_treesFromBelow_t]; omega), by first | exact Nat.le_of_ble_eq_true rfl | (simp only [rm_X0_treesFromBelow_t, rm_X1_treesFromBelow_t]; omega)⟩ dX0_treesFromBelow_4 (Nat.le_of_ble_eq_true rfl) rfl rfl) (fun r_1 u_1 H locs h_1 hP hD hS => ?_)
  have hP : va_P G.1 vwCl [oC h ad sn hsh, oX (ad 1) 1 [.ref (ad 11), .int (nI L), .int stp, .int why], aI G (ad 11) 64 st, oX (ad 3) 5 [.ref (ad 12)], aI G (ad 12) 8 u_1, aI G (ad 6) 64 (splitP st L), oX (ad 4) 6 [.ref (ad 13), .ref (ad 6), .int (nI L), .int t], aZ G (ad 13) 64 (bF (fbJ t (splitP st L) L sm L)), aJ G ou 1 ov] _ := hP
  have hD : va_D A [oC h ad sn hsh, oX (ad 1) 1 [.ref (ad 11), .int (nI L), .int stp, .int why], aI G (ad 11) 64 st, oX (ad 3) 5 [.ref (ad 12)], aI G (ad 12) 8 u_1, aI G (ad 6) 64 (splitP st L), oX (ad 4) 6 [.ref (ad 13), .ref (ad 6), .int (nI L), .int t], aZ G (ad 13) 64 (bF (fbJ t (splitP st L) L sm L)), aJ G ou 1 ov] := hD
  have h_1 : r_1 = (nI (fbN (fbJ t (splitP st L) L sm L) L 64)) := h_1
  rw [h_1]
  refine lv_i2l (v := (nI (fbN (fbJ t (splitP st L) L sm L) L 64)).toInt64) hx hb dX0_treesFromBelow_7 rfl ?_
  refine N_last (ws' := [oC h ad sn hsh, oX (ad 1) 1 [.ref (ad 11), .int (nI L), .int stp, .int why], aI G (ad 11) 64 st, oX (ad 3) 5 [.ref (ad 12)], aI G (ad 12) 8 u_1, aI G (ad 6) 64 (splitP st L), oX (ad 4) 6 [.ref (ad 13), .ref (ad 6), .int (nI L), .int t], aZ G (ad 13) 64 (bF (fbJ t (splitP st L) L sm L)), aJ G ou 1 (vp_updL ov 0 ((nI (fbN (fbJ t (splitP st L) L sm L) L 64)).toInt64))]) hx hb dX0_treesFromBelow_8 hK hP hD hS 8 2 rfl rfl (by omega) (by omega) rfl (fun H locs hP hD hS => ?_)
  refine lv_goto (tgt := 15) hx hb dX0_treesFromBelow_9 (by decide) ?_
  refine lv_iconst (v := nI 0) hx hb dX0_treesFromBelow_15 (by decide) ?_
  rw [hQQ]
  exact vx_ret (rt_i hx hb hr hlk  u_1 dX0_treesFromBelow_16 hP hD hS (by first | exact Nat.le_of_ble_eq_true rfl | (simp only [rm_X0_treesFromBelow_t, rm_X1_treesFromBelow_t]; omega) | omega) (by first | exact Nat.le_of_ble_eq_true rfl | (simp only [rm_X0_treesFromBelow_t, rm_X1_treesFromBelow_t]; omega) | omega) (by rfl))
def rm_X0_isTree_t0 : Room := ({ frames := 13, cells := 0, slots := 0, locals := 445 } : Room)
set_option maxHeartbeats 400000 in
set_option maxRecDepth 100000 in
theorem t_X0_isTree_t0 (l : Launch) (G : GG) (b0 sz : Nat) (h : Nat) (ad : Nat → Nat) (sn : Value) (hsh : Int64) (L : Nat) (stp why : Int32) (r c_ : Nat) (t : Int32) (ou : Nat) (ov : Nat → Int64) (hL1 : 1 ≤ L) (hL : L ≤ 3) (hr_ : r < 8) (hc_ : c_ < 8) (htt : isSh t = true) (hlv : levC (8 * r + c_) L = 0) : CTW l yX0_isTree cX0_isTree 6 (some FieldType.int) [(0, 19, 22, 13), (0, 19, 26, 15)] (rm_X0_isTree_t0) G b0 [.ref h, .int (nI r), .int (nI c_), .int t, .ref ou] [oC h ad sn hsh, oX (ad 1) 1 [.ref (ad 11), .int (nI L), .int stp, .int why], aJ G ou 1 ov] sz (Ri G (fun (r_ : Int32) (_ : Unit) => r_ = nI 0) (fun (_ : Unit) => [oC h ad sn hsh, oX (ad 1) 1 [.ref (ad 11), .int (nI L), .int stp, .int why], aJ G ou 1 (vp_updL ov 0 ((0 : Int64)))])) := by
  refine CTW.go (by decide) (Nat.le_of_ble_eq_true rfl) (fun p e s m below meth c A ls AR QQ hx hb hr hlk hml hown hnm hts hE hA hAb hsz hP hD hS hl htab hQQ => ?_)
  have hK := hE.1
  have hown : s.vm.findClass RX0 = some m.cls := hown
  have hl : lv_has ls 6 [(0, .ref h), (1, .int (nI r)), (2, .int (nI c_)), (3, .int t), (4, .ref ou)] := hl
  clear hsz
  refine lv_aload hx hb dX0_isTree_0 (lv_at hl 4 rfl) ?_
  refine lv_iconst (v := nI 0) hx hb dX0_isTree_2 (by decide) ?_
  refine lv_aload_n hx hb dX0_isTree_3 rfl (lv_at hl 0 rfl) ?_
  refine lv_iload_n hx hb dX0_isTree_4 rfl (lv_at hl 1 rfl) ?_
  refine lv_iload_n hx hb dX0_isTree_5 rfl (lv_at hl 2 rfl) ?_
  refine lv_iload_n hx hb dX0_isTree_6 rfl (lv_at hl 3 rfl) ?_
  refine fin_i (ws' := (fun (_ : Unit) => [oC h ad sn hsh, oX (ad 1) 1 [.ref (ad 11), .int (nI L), .int stp, .int why], aJ G ou 1 ov])) hA hS hP hD [0, 1] rfl [(true, 0), (true, 1), (false, 2)] (fun _ => rfl) (by decide) (run_V (As := [.int (nI r), .int (nI c_), .int t]) (rest := [.int (nI 0), .ref ou]) (n9 := 3) hx hb hml hown hts hE hAb hl.1 hS hP hD [0, 1] rfl (by decide) (t_X1_isTree_t0 l G b0 _ h ad sn hsh L stp why r c_ t (by exact hL1) (by exact hL) (by exact hr_) (by exact hc_) (by exact htt) (by exact hlv)) (lw_V q1620 q1621 q1622 q106 q1623) 0 rfl rfl ⟨rfl, by decide, by decide, by decide +kernel⟩ ⟨Nat.le_of_ble_eq_true rfl, Nat.le_of_ble_eq_true rfl⟩ ⟨by first | exact Nat.le_of_ble_eq_true rfl | (simp only [rm_X0_isTree_t0, rm_X1_isTree_t0]; omega), by first | exact Nat.le_of_ble_eq_true rfl | (simp only [rm_X0_isTree_t0, rm_X1_isTree_t0]; omega)⟩ dX0_isTree_7 (Nat.le_of_ble_eq_true rfl) rfl rfl) (fun r_1 u_1 H locs h_1 hP hD hS => ?_)
  have hP : va_P G.1 vwCl [oC h ad sn hsh, oX (ad 1) 1 [.ref (ad 11), .int (nI L), .int stp, .int why], aJ G ou 1 ov] _ := hP
  have hD : va_D A [oC h ad sn hsh, oX (ad 1) 1 [.ref (ad 11), .int (nI L), .int stp, .int why], aJ G ou 1 ov] := hD
  have h_1 : r_1 = (bI false) := h_1
  rw [h_1]
  refine B_if_eq (tgt := 17) hx hb dX0_isTree_10 (by decide) (fun c_10 => ?_) (fun c_10 => ?_)
  · skip
    refine lv_lconst (v := 0) hx hb dX0_isTree_17 (by decide) ?_
    refine N_last (ws' := [oC h ad sn hsh, oX (ad 1) 1 [.ref (ad 11), .int (nI L), .int stp, .int why], aJ G ou 1 (vp_updL ov 0 0)]) hx hb dX0_isTree_18 hK hP hD hS 2 2 rfl rfl (by omega) (by omega) rfl (fun H locs hP hD hS => ?_)
    refine lv_goto (tgt := 30) hx hb dX0_isTree_19 (by decide) ?_
    refine lv_iconst (v := nI 0) hx hb dX0_isTree_30 (by decide) ?_
    have hP : va_P G.1 vwCl [oC h ad sn hsh, oX (ad 1) 1 [.ref (ad 11), .int (nI L), .int stp, .int why], aJ G ou 1 (vp_updL ov 0 ((0 : Int64)))] _ := hP
    have hD : va_D A [oC h ad sn hsh, oX (ad 1) 1 [.ref (ad 11), .int (nI L), .int stp, .int why], aJ G ou 1 (vp_updL ov 0 ((0 : Int64)))] := hD
    rw [hQQ]
    exact vx_ret (rt_i hx hb hr hlk  ((())) dX0_isTree_31 hP hD hS (by first | exact Nat.le_of_ble_eq_true rfl | (simp only [rm_X0_isTree_t0, rm_X1_isTree_t0]; omega) | omega) (by first | exact Nat.le_of_ble_eq_true rfl | (simp only [rm_X0_isTree_t0, rm_X1_isTree_t0]; omega) | omega) (by rfl))
  · skip
    exfalso; exact absurd c_10 (by decide)
def rm_X0_isTree_t1 : Room := ({ frames := 13, cells := 0, slots := 0, locals := 445 } : Room)
set_option maxHeartbeats 400000 in
set_option maxRecDepth 100000 in
theorem t_X0_isTree_t1 (l : Launch) (G : GG) (b0 sz : Nat) (h : Nat) (ad : Nat → Nat) (sn : Value) (hsh : Int64) (L : Nat) (stp why : Int32) (st : Nat → Int32) (li : Nat → Int32) (pa : Nat → Int32) (tq : Option Nat) (tl : Nat) (tt : Int32) (r c_ : Nat) (t : Int32) (ou : Nat) (ov : Nat → Int64) (hL1 : 1 ≤ L) (hL : L ≤ 3) (hr_ : r < 8) (hc_ : c_ < 8) (htt : isSh t = true) (hlv : 0 < levC (8 * r + c_) L) : CTW l yX0_isTree cX0_isTree 6 (some FieldType.int) [(0, 19, 22, 13), (0, 19, 26, 15)] (rm_X0_isTree_t1) G b0 [.ref h, .int (nI r), .int (nI c_), .int t, .ref ou] [oC h ad sn hsh, oX (ad 1) 1 [.ref (ad 11), .int (nI L), .int stp, .int why], aI G (ad 11) 64 st, oX (ad 3) 5 [.ref (ad 12)], aI G (ad 12) 8 li, aI G (ad 6) 64 pa, oX (ad 4) 6 [.ref (ad 13), va_rf tq, .int (nI tl), .int tt], aJ G ou 1 ov] sz (Ri G (fun (r_ : Int32) (u : Nat → Int32) => r_ = nI 0) (fun (u : Nat → Int32) => [oC h ad sn hsh, oX (ad 1) 1 [.ref (ad 11), .int (nI L), .int stp, .int why], aI G (ad 11) 64 st, oX (ad 3) 5 [.ref (ad 12)], aI G (ad 12) 8 u, aI G (ad 6) 64 (splitP st L), oX (ad 4) 6 [.ref (ad 13), .ref (ad 6), .int (nI L), .int t], aJ G ou 1 (vp_updL ov 0 (if (trU t (splitP st L) (levC (8 * r + c_) L - 1) (8 * r + c_)) = true then 1 else 0))])) := by
  refine CTW.go (by decide) (Nat.le_of_ble_eq_true rfl) (fun p e s m below meth c A ls AR QQ hx hb hr hlk hml hown hnm hts hE hA hAb hsz hP hD hS hl htab hQQ => ?_)
  have hK := hE.1
  have hown : s.vm.findClass RX0 = some m.cls := hown
  have hl : lv_has ls 6 [(0, .ref h), (1, .int (nI r)), (2, .int (nI c_)), (3, .int t), (4, .ref ou)] := hl
  clear hsz
  refine lv_aload hx hb dX0_isTree_0 (lv_at hl 4 rfl) ?_
  refine lv_iconst (v := nI 0) hx hb dX0_isTree_2 (by decide) ?_
  refine lv_aload_n hx hb dX0_isTree_3 rfl (lv_at hl 0 rfl) ?_
  refine lv_iload_n hx hb dX0_isTree_4 rfl (lv_at hl 1 rfl) ?_
  refine lv_iload_n hx hb dX0_isTree_5 rfl (lv_at hl 2 rfl) ?_
  refine lv_iload_n hx hb dX0_isTree_6 rfl (lv_at hl 3 rfl) ?_
  refine fin_i (ws' := (fun (u_1 : Nat → Int32) => [oC h ad sn hsh, oX (ad 1) 1 [.ref (ad 11), .int (nI L), .int stp, .int why], aI G (ad 11) 64 st, oX (ad 3) 5 [.ref (ad 12)], aI G (ad 12) 8 u_1, aI G (ad 6) 64 (splitP st L), oX (ad 4) 6 [.ref (ad 13), .ref (ad 6), .int (nI L), .int t], aJ G ou 1 ov])) hA hS hP hD [0, 1, 2, 3, 4, 5, 6] rfl [(true, 0), (true, 1), (true, 2), (true, 3), (true, 4), (true, 5), (true, 6), (false, 7)] (fun _ => rfl) (by decide) (run_V (As := [.int (nI r), .int (nI c_), .int t]) (rest := [.int (nI 0), .ref ou]) (n9 := 3) hx hb hml hown hts hE hAb hl.1 hS hP hD [0, 1, 2, 3, 4, 5, 6] rfl (by decide) (t_X1_isTree_t1 l G b0 _ h ad sn hsh L stp why st li pa tq tl tt r c_ t (by exact hL1) (by exact hL) (by exact hr_) (by exact hc_) (by exact htt) (by exact hlv)) (lw_V q1620 q1621 q1622 q106 q1623) 0 rfl rfl ⟨rfl, by decide, by decide, by decide +kernel⟩ ⟨Nat.le_of_ble_eq_true rfl, Nat.le_of_ble_eq_true rfl⟩ ⟨by first | exact Nat.le_of_ble_eq_true rfl | (simp only [rm_X0_isTree_t1, rm_X1_isTree_t1]; omega), by first | exact Nat.le_of_ble_eq_true rfl | (simp only [rm_X0_isTree_t1, rm_X1_isTree_t1]; omega)⟩ dX0_isTree_7 (Nat.le_of_ble_eq_true rfl) rfl rfl) (fun r_1 u_1 H locs h_1 hP hD hS => ?_)
  have hP : va_P G.1 vwCl [oC h ad sn hsh, oX (ad 1) 1 [.ref (ad 11), .int (nI L), .int stp, .int why], aI G (ad 11) 64 st, oX (ad 3) 5 [.ref (ad 12)], aI G (ad 12) 8 u_1, aI G (ad 6) 64 (splitP st L), oX (ad 4) 6 [.ref (ad 13), .ref (ad 6), .int (nI L), .int t], aJ G ou 1 ov] _ := hP
  have hD : va_D A [oC h ad sn hsh, oX (ad 1) 1 [.ref (ad 11), .int (nI L), .int stp, .int why], aI G (ad 11) 64 st, oX (ad 3) 5 [.ref (ad 12)], aI G (ad 12) 8 u_1, aI G (ad 6) 64 (splitP st L), oX (ad 4) 6 [.ref (ad 13), .ref (ad 6), .int (nI L), .int t], aJ G ou 1 ov] := hD
  have h_1 : r_1 = (bI (trU t (splitP st L) (levC (8 * r + c_) L - 1) (8 * r + c_))) := h_1
  rw [h_1]
  have K_10 : ∀ (v_2 : Int64) (_ : v_2 = if (trU t (splitP st L) (levC (8 * r + c_) L - 1) (8 * r + c_)) = true then 1 else 0) (H : Heap) (locs : List Loc) (ls : Array Slot), va_P G.1 vwCl [oC h ad sn hsh, oX (ad 1) 1 [.ref (ad 11), .int (nI L), .int stp, .int why], aI G (ad 11) 64 st, oX (ad 3) 5 [.ref (ad 12)], aI G (ad 12) 8 u_1, aI G (ad 6) 64 (splitP st L), oX (ad 4) 6 [.ref (ad 13), .ref (ad 6), .int (nI L), .int t], aJ G ou 1 ov] H → va_D A [oC h ad sn hsh, oX (ad 1) 1 [.ref (ad 11), .int (nI L), .int stp, .int why], aI G (ad 11) 64 st, oX (ad 3) 5 [.ref (ad 12)], aI G (ad 12) 8 u_1, aI G (ad 6) 64 (splitP st L), oX (ad 4) 6 [.ref (ad 13), .ref (ad 6), .int (nI L), .int t], aJ G ou 1 ov] → va_S A s.heap H locs → lv_has ls 6 [(0, .ref h), (1, .int (nI r)), (2, .int (nI c_)), (3, .int t), (4, .ref ou)] → W p l e (rm_X0_isTree_t1) s m AR below meth c H locs 0 0 QQ (F0 m 18 ls [.long v_2, .int (nI 0), .ref ou]) := by
    intro v_2 e_v_2 H locs ls hP hD hS hl
    subst e_v_2
    refine N_last (ws' := [oC h ad sn hsh, oX (ad 1) 1 [.ref (ad 11), .int (nI L), .int stp, .int why], aI G (ad 11) 64 st, oX (ad 3) 5 [.ref (ad 12)], aI G (ad 12) 8 u_1, aI G (ad 6) 64 (splitP st L), oX (ad 4) 6 [.ref (ad 13), .ref (ad 6), .int (nI L), .int t], aJ G ou 1 (vp_updL ov 0 (if (trU t (splitP st L) (levC (8 * r + c_) L - 1) (8 * r + c_)) = true then 1 else 0))]) hx hb dX0_isTree_18 hK hP hD hS 7 2 rfl rfl (by omega) (by omega) rfl (fun H locs hP hD hS => ?_)
    refine lv_goto (tgt := 30) hx hb dX0_isTree_19 (by decide) ?_
    refine lv_iconst (v := nI 0) hx hb dX0_isTree_30 (by decide) ?_
    rw [hQQ]
    exact vx_ret (rt_i hx hb hr hlk  u_1 dX0_isTree_31 hP hD hS (by first | exact Nat.le_of_ble_eq_true rfl | (simp only [rm_X0_isTree_t1, rm_X1_isTree_t1]; omega) | omega) (by first | exact Nat.le_of_ble_eq_true rfl | (simp only [rm_X0_isTree_t1, rm_X1_isTree_t1]; omega) | omega) (by rfl))
  refine B_if_eq (tgt := 17) hx hb dX0_isTree_10 (by decide) (fun c_10 => ?_) (fun c_10 => ?_)
  · skip
    refine lv_lconst (v := 0) hx hb dX0_isTree_17 (by decide) ?_
    exact K_10 0 (by first | rfl | (try rw [if_neg (ne_true_of_eq_false c_10)]) | simp_all) _ _ _ hP hD hS (lv_sub hl [0, 1, 2, 3, 4] rfl)
  · skip
    refine lv_lconst (v := 1) hx hb dX0_isTree_13 (by decide) ?_
    refine lv_goto (tgt := 18) hx hb dX0_isTree_14 (by decide) ?_
    exact K_10 1 (by first | rfl | (try rw [if_pos c_10]) | simp_all) _ _ _ hP hD hS (lv_sub hl [0, 1, 2, 3, 4] rfl)
def rm_X0_partsChanged_t : Room := ({ frames := 13, cells := 0, slots := 0, locals := 446 } : Room)
set_option maxHeartbeats 400000 in
set_option maxRecDepth 100000 in
theorem t_X0_partsChanged_t (l : Launch) (G : GG) (b0 sz : Nat) (h : Nat) (ad : Nat → Nat) (sn : Value) (hsh : Int64) (L : Nat) (stp why : Int32) (st : Nat → Int32) (li : Nat → Int32) (pa : Nat → Int32) (ot : Nat → Int32) (rm : Nat → Int32) (r c_ : Nat) (t : Int32) (ou : Nat) (ov : Nat → Int64) (hL1 : 1 ≤ L) (hL : L ≤ 3) (hr_ : r < 8) (hc_ : c_ < 8) (htt : isSh t = true) : CTW l yX0_partsChanged cX0_partsChanged 6 (some FieldType.int) [(0, 12, 15, 13), (0, 12, 19, 15)] (rm_X0_partsChanged_t) G b0 [.ref h, .int (nI r), .int (nI c_), .int t, .ref ou] [oC h ad sn hsh, oX (ad 1) 1 [.ref (ad 11), .int (nI L), .int stp, .int why], aI G (ad 11) 64 st, oX (ad 3) 5 [.ref (ad 12)], aI G (ad 12) 8 li, aI G (ad 6) 64 pa, aI G (ad 7) 64 ot, aI G (ad 8) 64 rm, aJ G ou 1 ov] sz (Ri G (fun (r_ : Int32) (u : Nat → Int32) => r_ = nI 0) (fun (u : Nat → Int32) => [oC h ad sn hsh, oX (ad 1) 1 [.ref (ad 11), .int (nI L), .int stp, .int why], aI G (ad 11) 64 st, oX (ad 3) 5 [.ref (ad 12)], aI G (ad 12) 8 u, aI G (ad 6) 64 (splitP st L), aI G (ad 7) 64 (splitP (upd st (8 * r + c_) t) L), aI G (ad 8) 64 (upd st (8 * r + c_) t), aJ G ou 1 (vp_updL ov 0 ((l_sum (cneI (splitP st L) (splitP (upd st (8 * r + c_) t) L)) 64).toInt64))])) := by
  refine CTW.go (by decide) (Nat.le_of_ble_eq_true rfl) (fun p e s m below meth c A ls AR QQ hx hb hr hlk hml hown hnm hts hE hA hAb hsz hP hD hS hl htab hQQ => ?_)
  have hK := hE.1
  have hown : s.vm.findClass RX0 = some m.cls := hown
  have hl : lv_has ls 6 [(0, .ref h), (1, .int (nI r)), (2, .int (nI c_)), (3, .int t), (4, .ref ou)] := hl
  clear hsz
  refine lv_aload hx hb dX0_partsChanged_0 (lv_at hl 4 rfl) ?_
  refine lv_iconst (v := nI 0) hx hb dX0_partsChanged_2 (by decide) ?_
  refine lv_aload_n hx hb dX0_partsChanged_3 rfl (lv_at hl 0 rfl) ?_
  refine lv_iload_n hx hb dX0_partsChanged_4 rfl (lv_at hl 1 rfl) ?_
  refine lv_iload_n hx hb dX0_partsChanged_5 rfl (lv_at hl 2 rfl) ?_
  refine lv_iload_n hx hb dX0_partsChanged_6 rfl (lv_at hl 3 rfl) ?_
  refine fin_i (ws' := (fun (u_1 : Nat → Int32) => [oC h ad sn hsh, oX (ad 1) 1 [.ref (ad 11), .int (nI L), .int stp, .int why], aI G (ad 11) 64 st, oX (ad 3) 5 [.ref (ad 12)], aI G (ad 12) 8 u_1, aI G (ad 6) 64 (splitP st L), aI G (ad 7) 64 (splitP (upd st (8 * r + c_) t) L), aI G (ad 8) 64 (upd st (8 * r + c_) t), aJ G ou 1 ov])) hA hS hP hD [0, 1, 2, 3, 4, 5, 6, 7] rfl [(true, 0), (true, 1), (true, 2), (true, 3), (true, 4), (true, 5), (true, 6), (true, 7), (false, 8)] (fun _ => rfl) (by decide) (run_V (As := [.int (nI r), .int (nI c_), .int t]) (rest := [.int (nI 0), .ref ou]) (n9 := 3) hx hb hml hown hts hE hAb hl.1 hS hP hD [0, 1, 2, 3, 4, 5, 6, 7] rfl (by decide) (t_X1_partsChanged_t l G b0 _ h ad sn hsh L stp why st li pa ot rm r c_ t (by exact hL1) (by exact hL) (by exact hr_) (by exact hc_) (by exact htt)) (lw_V q1643 q1644 q1645 q106 q1646) 0 rfl rfl ⟨rfl, by decide, by decide, by decide +kernel⟩ ⟨Nat.le_of_ble_eq_true rfl, Nat.le_of_ble_eq_true rfl⟩ ⟨by first | exact Nat.le_of_ble_eq_true rfl | (simp only [rm_X0_partsChanged_t, rm_X1_partsChanged_t]; omega), by first | exact Nat.le_of_ble_eq_true rfl | (simp only [rm_X0_partsChanged_t, rm_X1_partsChanged_t]; omega)⟩ dX0_partsChanged_7 (Nat.le_of_ble_eq_true rfl) rfl rfl) (fun r_1 u_1 H locs h_1 hP hD hS => ?_)
  have hP : va_P G.1 vwCl [oC h ad sn hsh, oX (ad 1) 1 [.ref (ad 11), .int (nI L), .int stp, .int why], aI G (ad 11) 64 st, oX (ad 3) 5 [.ref (ad 12)], aI G (ad 12) 8 u_1, aI G (ad 6) 64 (splitP st L), aI G (ad 7) 64 (splitP (upd st (8 * r + c_) t) L), aI G (ad 8) 64 (upd st (8 * r + c_) t), aJ G ou 1 ov] _ := hP
  have hD : va_D A [oC h ad sn hsh, oX (ad 1) 1 [.ref (ad 11), .int (nI L), .int stp, .int why], aI G (ad 11) 64 st, oX (ad 3) 5 [.ref (ad 12)], aI G (ad 12) 8 u_1, aI G (ad 6) 64 (splitP st L), aI G (ad 7) 64 (splitP (upd st (8 * r + c_) t) L), aI G (ad 8) 64 (upd st (8 * r + c_) t), aJ G ou 1 ov] := hD
  have h_1 : r_1 = (l_sum (cneI (splitP st L) (splitP (upd st (8 * r + c_) t) L)) 64) := h_1
  rw [h_1]
  refine lv_i2l (v := (l_sum (cneI (splitP st L) (splitP (upd st (8 * r + c_) t) L)) 64).toInt64) hx hb dX0_partsChanged_10 rfl ?_
  refine N_last (ws' := [oC h ad sn hsh, oX (ad 1) 1 [.ref (ad 11), .int (nI L), .int stp, .int why], aI G (ad 11) 64 st, oX (ad 3) 5 [.ref (ad 12)], aI G (ad 12) 8 u_1, aI G (ad 6) 64 (splitP st L), aI G (ad 7) 64 (splitP (upd st (8 * r + c_) t) L), aI G (ad 8) 64 (upd st (8 * r + c_) t), aJ G ou 1 (vp_updL ov 0 ((l_sum (cneI (splitP st L) (splitP (upd st (8 * r + c_) t) L)) 64).toInt64))]) hx hb dX0_partsChanged_11 hK hP hD hS 8 2 rfl rfl (by omega) (by omega) rfl (fun H locs hP hD hS => ?_)
  refine lv_goto (tgt := 23) hx hb dX0_partsChanged_12 (by decide) ?_
  refine lv_iconst (v := nI 0) hx hb dX0_partsChanged_23 (by decide) ?_
  rw [hQQ]
  exact vx_ret (rt_i hx hb hr hlk  u_1 dX0_partsChanged_24 hP hD hS (by first | exact Nat.le_of_ble_eq_true rfl | (simp only [rm_X0_partsChanged_t, rm_X1_partsChanged_t]; omega) | omega) (by first | exact Nat.le_of_ble_eq_true rfl | (simp only [rm_X0_partsChanged_t, rm_X1_partsChanged_t]; omega) | omega) (by rfl))
def rm_X0_codeBit_t : Room := ({ frames := 13, cells := 44, slots := 88, locals := 442 } : Room)
set_option maxHeartbeats 400000 in
set_option maxRecDepth 100000 in
theorem t_X0_codeBit_t (l : Launch) (G : GG) (b0 sz : Nat) (h : Nat) (ad : Nat → Nat) (sn : Value) (hsh : Int64) (L : Nat) (stp why : Int32) (st : Nat → Int32) (li : Nat → Int32) (pa : Nat → Int32) (ln at_ : Nat) (wa wu : Nat) (wn : Nat) (w : Nat → Int64) (w_ : Nat) (ou : Nat) (ov : Nat → Int64) (hL1 : 1 ≤ L) (hL : L ≤ 3) (hB : BW wn wu w) (hwn : wn ≤ 44) (hbd : bdP (splitP st L)) (hw : w_ < lenC (splitP st L) L 0) : CTW l yX0_codeBit cX0_codeBit 4 (some FieldType.int) [(0, 9, 12, 13)] (rm_X0_codeBit_t) G b0 [.ref h, .int (nI w_), .ref ou] [oC h ad sn hsh, oX (ad 1) 1 [.ref (ad 11), .int (nI L), .int stp, .int why], aI G (ad 11) 64 st, oX (ad 3) 5 [.ref (ad 12)], aI G (ad 12) 8 li, aI G (ad 6) 64 pa, aR G (ad 2) 3 (orF ad), oX (ad (15 + L)) 2 [.ref (ad (16 + 3 * L)), .ref (ad (17 + 3 * L)), .ref (ad (18 + 3 * L)), .int (nI 64)], aI G (ad (16 + 3 * L)) 64 (nF (orT L)), oX (ad 5) 7 [.ref (ad 14), .ref (ad 15), .int (nI ln), .int (nI at_)], oX (ad 14) 10 [.ref wa, .int (nI wu), .int (bI false)], aJ G wa wn w, aJ G ou 1 ov] sz (Ri G (fun (r_ : Int32) (u : (Nat × Nat × Nat × (Nat → Int64)) × (Nat → Int32)) => r_ = nI 0 ∧ (∀ i, i < lenC (splitP st L) L 0 → bI (rb u.1.2.2.2 u.1.2.2.1 i) = bitS (splitP st L) L i 0) ∧ BW u.1.2.1 u.1.2.2.1 u.1.2.2.2 ∧ lenC (splitP st L) L 0 ≤ 1344 ∧ wn ≤ u.1.2.1 ∧ u.1.2.1 ≤ 44) (fun (u : (Nat × Nat × Nat × (Nat → Int64)) × (Nat → Int32)) => [oC h ad sn hsh, oX (ad 1) 1 [.ref (ad 11), .int (nI L), .int stp, .int why], aI G (ad 11) 64 st, oX (ad 3) 5 [.ref (ad 12)], aI G (ad 12) 8 u.2, aI G (ad 6) 64 (splitP st L), aR G (ad 2) 3 (orF ad), oX (ad (15 + L)) 2 [.ref (ad (16 + 3 * L)), .ref (ad (17 + 3 * L)), .ref (ad (18 + 3 * L)), .int (nI 64)], aI G (ad (16 + 3 * L)) 64 (nF (orT L)), oX (ad 5) 7 [.ref (ad 14), .ref (ad 15), .int (nI (lenC (splitP st L) L 0)), .int (nI at_)], oX (ad 14) 10 [.ref u.1.1, .int (nI u.1.2.2.1), .int (bI false)], aJ G u.1.1 u.1.2.1 u.1.2.2.2, aJ G ou 1 (vp_updL ov 0 ((bitS (splitP st L) L w_ 0).toInt64))])) := by
  refine CTW.go (by decide) (Nat.le_of_ble_eq_true rfl) (fun p e s m below meth c A ls AR QQ hx hb hr hlk hml hown hnm hts hE hA hAb hsz hP hD hS hl htab hQQ => ?_)
  have hK := hE.1
  have hown : s.vm.findClass RX0 = some m.cls := hown
  have hl : lv_has ls 4 [(0, .ref h), (1, .int (nI w_)), (2, .ref ou)] := hl
  clear hsz
  refine lv_aload_n hx hb dX0_codeBit_0 rfl (lv_at hl 2 rfl) ?_
  refine lv_iconst (v := nI 0) hx hb dX0_codeBit_1 (by decide) ?_
  refine lv_aload_n hx hb dX0_codeBit_2 rfl (lv_at hl 0 rfl) ?_
  refine lv_iload_n hx hb dX0_codeBit_3 rfl (lv_at hl 1 rfl) ?_
  refine fin_i (ws' := (fun (u_1 : (Nat × Nat × Nat × (Nat → Int64)) × (Nat → Int32)) => [oC h ad sn hsh, oX (ad 1) 1 [.ref (ad 11), .int (nI L), .int stp, .int why], aI G (ad 11) 64 st, oX (ad 3) 5 [.ref (ad 12)], aI G (ad 12) 8 u_1.2, aI G (ad 6) 64 (splitP st L), aR G (ad 2) 3 (orF ad), oX (ad (15 + L)) 2 [.ref (ad (16 + 3 * L)), .ref (ad (17 + 3 * L)), .ref (ad (18 + 3 * L)), .int (nI 64)], aI G (ad (16 + 3 * L)) 64 (nF (orT L)), oX (ad 5) 7 [.ref (ad 14), .ref (ad 15), .int (nI (lenC (splitP st L) L 0)), .int (nI at_)], oX (ad 14) 10 [.ref u_1.1.1, .int (nI u_1.1.2.2.1), .int (bI false)], aJ G u_1.1.1 u_1.1.2.1 u_1.1.2.2.2, aJ G ou 1 ov])) hA hS hP hD [0, 1, 2, 3, 4, 5, 6, 7, 8, 9, 10, 11] rfl [(true, 0), (true, 1), (true, 2), (true, 3), (true, 4), (true, 5), (true, 6), (true, 7), (true, 8), (true, 9), (true, 10), (true, 11), (false, 12)] (fun _ => rfl) (by decide) (run_V (As := [.int (nI w_)]) (rest := [.int (nI 0), .ref ou]) (n9 := 1) hx hb hml hown hts hE hAb hl.1 hS hP hD [0, 1, 2, 3, 4, 5, 6, 7, 8, 9, 10, 11] rfl (by decide) (t_X1_codeBit_t l G b0 _ h ad sn hsh L stp why st li pa ln at_ wa wu wn w w_ (by exact hL1) (by exact hL) (by exact hB) (by exact hwn) (by exact hbd) (by exact hw)) (lw_V q1628 q1629 q1630 q106 q1631) 0 rfl rfl ⟨rfl, by decide, by decide, by decide +kernel⟩ ⟨Nat.le_of_ble_eq_true rfl, Nat.le_of_ble_eq_true rfl⟩ ⟨by first | exact Nat.le_of_ble_eq_true rfl | (simp only [rm_X0_codeBit_t, rm_X1_codeBit_t]; omega), by first | exact Nat.le_of_ble_eq_true rfl | (simp only [rm_X0_codeBit_t, rm_X1_codeBit_t]; omega)⟩ dX0_codeBit_4 (Nat.le_of_ble_eq_true rfl) rfl rfl) (fun r_1 u_1 H locs h_1 hP hD hS => ?_)
  have hP : va_P G.1 vwCl [oC h ad sn hsh, oX (ad 1) 1 [.ref (ad 11), .int (nI L), .int stp, .int why], aI G (ad 11) 64 st, oX (ad 3) 5 [.ref (ad 12)], aI G (ad 12) 8 u_1.2, aI G (ad 6) 64 (splitP st L), aR G (ad 2) 3 (orF ad), oX (ad (15 + L)) 2 [.ref (ad (16 + 3 * L)), .ref (ad (17 + 3 * L)), .ref (ad (18 + 3 * L)), .int (nI 64)], aI G (ad (16 + 3 * L)) 64 (nF (orT L)), oX (ad 5) 7 [.ref (ad 14), .ref (ad 15), .int (nI (lenC (splitP st L) L 0)), .int (nI at_)], oX (ad 14) 10 [.ref u_1.1.1, .int (nI u_1.1.2.2.1), .int (bI false)], aJ G u_1.1.1 u_1.1.2.1 u_1.1.2.2.2, aJ G ou 1 ov] _ := hP
  have hD : va_D A [oC h ad sn hsh, oX (ad 1) 1 [.ref (ad 11), .int (nI L), .int stp, .int why], aI G (ad 11) 64 st, oX (ad 3) 5 [.ref (ad 12)], aI G (ad 12) 8 u_1.2, aI G (ad 6) 64 (splitP st L), aR G (ad 2) 3 (orF ad), oX (ad (15 + L)) 2 [.ref (ad (16 + 3 * L)), .ref (ad (17 + 3 * L)), .ref (ad (18 + 3 * L)), .int (nI 64)], aI G (ad (16 + 3 * L)) 64 (nF (orT L)), oX (ad 5) 7 [.ref (ad 14), .ref (ad 15), .int (nI (lenC (splitP st L) L 0)), .int (nI at_)], oX (ad 14) 10 [.ref u_1.1.1, .int (nI u_1.1.2.2.1), .int (bI false)], aJ G u_1.1.1 u_1.1.2.1 u_1.1.2.2.2, aJ G ou 1 ov] := hD
  obtain ⟨h_1, f_1⟩ := h_1
  have h_1 : r_1 = (bitS (splitP st L) L w_ 0) := h_1
  try rw [h_1] at f_1
  have f_1 : (∀ i, i < lenC (splitP st L) L 0 → bI (rb u_1.1.2.2.2 u_1.1.2.2.1 i) = bitS (splitP st L) L i 0) ∧ BW u_1.1.2.1 u_1.1.2.2.1 u_1.1.2.2.2 ∧ lenC (splitP st L) L 0 ≤ 1344 ∧ wn ≤ u_1.1.2.1 ∧ u_1.1.2.1 ≤ 44 := f_1
  rw [h_1]
  have hcf := f_1
  refine lv_i2l (v := (bitS (splitP st L) L w_ 0).toInt64) hx hb dX0_codeBit_7 rfl ?_
  refine N_last (ws' := [oC h ad sn hsh, oX (ad 1) 1 [.ref (ad 11), .int (nI L), .int stp, .int why], aI G (ad 11) 64 st, oX (ad 3) 5 [.ref (ad 12)], aI G (ad 12) 8 u_1.2, aI G (ad 6) 64 (splitP st L), aR G (ad 2) 3 (orF ad), oX (ad (15 + L)) 2 [.ref (ad (16 + 3 * L)), .ref (ad (17 + 3 * L)), .ref (ad (18 + 3 * L)), .int (nI 64)], aI G (ad (16 + 3 * L)) 64 (nF (orT L)), oX (ad 5) 7 [.ref (ad 14), .ref (ad 15), .int (nI (lenC (splitP st L) L 0)), .int (nI at_)], oX (ad 14) 10 [.ref u_1.1.1, .int (nI u_1.1.2.2.1), .int (bI false)], aJ G u_1.1.1 u_1.1.2.1 u_1.1.2.2.2, aJ G ou 1 (vp_updL ov 0 ((bitS (splitP st L) L w_ 0).toInt64))]) hx hb dX0_codeBit_8 hK hP hD hS 12 2 rfl rfl (by omega) (by omega) rfl (fun H locs hP hD hS => ?_)
  refine lv_goto (tgt := 15) hx hb dX0_codeBit_9 (by decide) ?_
  refine lv_iconst (v := nI 0) hx hb dX0_codeBit_15 (by decide) ?_
  rw [hQQ]
  exact vx_ret (rt_i hx hb hr hlk  u_1 dX0_codeBit_16 hP hD hS (by first | exact Nat.le_of_ble_eq_true rfl | (simp only [rm_X0_codeBit_t, rm_X1_codeBit_t]; omega) | omega) (by first | exact Nat.le_of_ble_eq_true rfl | (simp only [rm_X0_codeBit_t, rm_X1_codeBit_t]; omega) | omega) ⟨(by rfl), by exact hcf⟩)
def rm_X0_partByCode_t : Room := ({ frames := 13, cells := 44, slots := 88, locals := 441 } : Room)
set_option maxHeartbeats 400000 in
set_option maxRecDepth 100000 in
theorem t_X0_partByCode_t (l : Launch) (G : GG) (b0 sz : Nat) (h : Nat) (ad : Nat → Nat) (sn : Value) (hsh : Int64) (L : Nat) (stp why : Int32) (st : Nat → Int32) (li : Nat → Int32) (pa : Nat → Int32) (ln at_ : Nat) (wa wu : Nat) (wn : Nat) (w : Nat → Int64) (cp : Nat → Int32) (w_ : Nat) (ou : Nat) (ov : Nat → Int64) (hL1 : 1 ≤ L) (hL : L ≤ 3) (hB : BW wn wu w) (hwn : wn ≤ 44) (hbd : bdP (splitP st L)) (hw : w_ < 64) : CTW l yX0_partByCode cX0_partByCode 4 (some FieldType.int) [(0, 9, 12, 13)] (rm_X0_partByCode_t) G b0 [.ref h, .int (nI w_), .ref ou] [oC h ad sn hsh, oX (ad 1) 1 [.ref (ad 11), .int (nI L), .int stp, .int why], aI G (ad 11) 64 st, oX (ad 3) 5 [.ref (ad 12)], aI G (ad 12) 8 li, aI G (ad 6) 64 pa, aR G (ad 2) 3 (orF ad), oX (ad (15 + L)) 2 [.ref (ad (16 + 3 * L)), .ref (ad (17 + 3 * L)), .ref (ad (18 + 3 * L)), .int (nI 64)], aI G (ad (16 + 3 * L)) 64 (nF (orT L)), oX (ad 5) 7 [.ref (ad 14), .ref (ad 15), .int (nI ln), .int (nI at_)], oX (ad 14) 10 [.ref wa, .int (nI wu), .int (bI false)], aJ G wa wn w, aI G (ad 15) 64 cp, aJ G ou 1 ov] sz (Ri G (fun (r_ : Int32) (u : (Nat × Nat × Nat × (Nat → Int64)) × (Nat → Int32)) => r_ = nI 0 ∧ (∀ i, i < lenC (splitP st L) L 0 → bI (rb u.1.2.2.2 u.1.2.2.1 i) = bitS (splitP st L) L i 0) ∧ BW u.1.2.1 u.1.2.2.1 u.1.2.2.2 ∧ lenC (splitP st L) L 0 ≤ 1344 ∧ wn ≤ u.1.2.1 ∧ u.1.2.1 ≤ 44) (fun (u : (Nat × Nat × Nat × (Nat → Int64)) × (Nat → Int32)) => [oC h ad sn hsh, oX (ad 1) 1 [.ref (ad 11), .int (nI L), .int stp, .int why], aI G (ad 11) 64 st, oX (ad 3) 5 [.ref (ad 12)], aI G (ad 12) 8 u.2, aI G (ad 6) 64 (splitP st L), aR G (ad 2) 3 (orF ad), oX (ad (15 + L)) 2 [.ref (ad (16 + 3 * L)), .ref (ad (17 + 3 * L)), .ref (ad (18 + 3 * L)), .int (nI 64)], aI G (ad (16 + 3 * L)) 64 (nF (orT L)), oX (ad 5) 7 [.ref (ad 14), .ref (ad 15), .int (nI (lenC (splitP st L) L 0)), .int (nI (lenC (splitP st L) L 0))], oX (ad 14) 10 [.ref u.1.1, .int (nI u.1.2.2.1), .int (bI false)], aJ G u.1.1 u.1.2.1 u.1.2.2.2, aI G (ad 15) 64 (fun j => splitP st L (orT L j)), aJ G ou 1 (vp_updL ov 0 ((splitP st L (orT L w_)).toInt64))])) := by
  refine CTW.go (by decide) (Nat.le_of_ble_eq_true rfl) (fun p e s m below meth c A ls AR QQ hx hb hr hlk hml hown hnm hts hE hA hAb hsz hP hD hS hl htab hQQ => ?_)
  have hK := hE.1
  have hown : s.vm.findClass RX0 = some m.cls := hown
  have hl : lv_has ls 4 [(0, .ref h), (1, .int (nI w_)), (2, .ref ou)] := hl
  clear hsz
  refine lv_aload_n hx hb dX0_partByCode_0 rfl (lv_at hl 2 rfl) ?_
  refine lv_iconst (v := nI 0) hx hb dX0_partByCode_1 (by decide) ?_
  refine lv_aload_n hx hb dX0_partByCode_2 rfl (lv_at hl 0 rfl) ?_
  refine lv_iload_n hx hb dX0_partByCode_3 rfl (lv_at hl 1 rfl) ?_
  refine fin_i (ws' := (fun (u_1 : (Nat × Nat × Nat × (Nat → Int64)) × (Nat → Int32)) => [oC h ad sn hsh, oX (ad 1) 1 [.ref (ad 11), .int (nI L), .int stp, .int why], aI G (ad 11) 64 st, oX (ad 3) 5 [.ref (ad 12)], aI G (ad 12) 8 u_1.2, aI G (ad 6) 64 (splitP st L), aR G (ad 2) 3 (orF ad), oX (ad (15 + L)) 2 [.ref (ad (16 + 3 * L)), .ref (ad (17 + 3 * L)), .ref (ad (18 + 3 * L)), .int (nI 64)], aI G (ad (16 + 3 * L)) 64 (nF (orT L)), oX (ad 5) 7 [.ref (ad 14), .ref (ad 15), .int (nI (lenC (splitP st L) L 0)), .int (nI (lenC (splitP st L) L 0))], oX (ad 14) 10 [.ref u_1.1.1, .int (nI u_1.1.2.2.1), .int (bI false)], aJ G u_1.1.1 u_1.1.2.1 u_1.1.2.2.2, aI G (ad 15) 64 (fun j => splitP st L (orT L j)), aJ G ou 1 ov])) hA hS hP hD [0, 1, 2, 3, 4, 5, 6, 7, 8, 9, 10, 11, 12] rfl [(true, 0), (true, 1), (true, 2), (true, 3), (true, 4), (true, 5), (true, 6), (true, 7), (true, 8), (true, 9), (true, 10), (true, 11), (true, 12), (false, 13)] (fun _ => rfl) (by decide) (run_V (As := [.int (nI w_)]) (rest := [.int (nI 0), .ref ou]) (n9 := 1) hx hb hml hown hts hE hAb hl.1 hS hP hD [0, 1, 2, 3, 4, 5, 6, 7, 8, 9, 10, 11, 12] rfl (by decide) (t_X1_partByCode_t l G b0 _ h ad sn hsh L stp why st li pa ln at_ wa wu wn w cp w_ (by exact hL1) (by exact hL) (by exact hB) (by exact hwn) (by exact hbd) (by exact hw)) (lw_V q1636 q1637 q1638 q106 q1639) 0 rfl rfl ⟨rfl, by decide, by decide, by decide +kernel⟩ ⟨Nat.le_of_ble_eq_true rfl, Nat.le_of_ble_eq_true rfl⟩ ⟨by first | exact Nat.le_of_ble_eq_true rfl | (simp only [rm_X0_partByCode_t, rm_X1_partByCode_t]; omega), by first | exact Nat.le_of_ble_eq_true rfl | (simp only [rm_X0_partByCode_t, rm_X1_partByCode_t]; omega)⟩ dX0_partByCode_4 (Nat.le_of_ble_eq_true rfl) rfl rfl) (fun r_1 u_1 H locs h_1 hP hD hS => ?_)
  have hP : va_P G.1 vwCl [oC h ad sn hsh, oX (ad 1) 1 [.ref (ad 11), .int (nI L), .int stp, .int why], aI G (ad 11) 64 st, oX (ad 3) 5 [.ref (ad 12)], aI G (ad 12) 8 u_1.2, aI G (ad 6) 64 (splitP st L), aR G (ad 2) 3 (orF ad), oX (ad (15 + L)) 2 [.ref (ad (16 + 3 * L)), .ref (ad (17 + 3 * L)), .ref (ad (18 + 3 * L)), .int (nI 64)], aI G (ad (16 + 3 * L)) 64 (nF (orT L)), oX (ad 5) 7 [.ref (ad 14), .ref (ad 15), .int (nI (lenC (splitP st L) L 0)), .int (nI (lenC (splitP st L) L 0))], oX (ad 14) 10 [.ref u_1.1.1, .int (nI u_1.1.2.2.1), .int (bI false)], aJ G u_1.1.1 u_1.1.2.1 u_1.1.2.2.2, aI G (ad 15) 64 (fun j => splitP st L (orT L j)), aJ G ou 1 ov] _ := hP
  have hD : va_D A [oC h ad sn hsh, oX (ad 1) 1 [.ref (ad 11), .int (nI L), .int stp, .int why], aI G (ad 11) 64 st, oX (ad 3) 5 [.ref (ad 12)], aI G (ad 12) 8 u_1.2, aI G (ad 6) 64 (splitP st L), aR G (ad 2) 3 (orF ad), oX (ad (15 + L)) 2 [.ref (ad (16 + 3 * L)), .ref (ad (17 + 3 * L)), .ref (ad (18 + 3 * L)), .int (nI 64)], aI G (ad (16 + 3 * L)) 64 (nF (orT L)), oX (ad 5) 7 [.ref (ad 14), .ref (ad 15), .int (nI (lenC (splitP st L) L 0)), .int (nI (lenC (splitP st L) L 0))], oX (ad 14) 10 [.ref u_1.1.1, .int (nI u_1.1.2.2.1), .int (bI false)], aJ G u_1.1.1 u_1.1.2.1 u_1.1.2.2.2, aI G (ad 15) 64 (fun j => splitP st L (orT L j)), aJ G ou 1 ov] := hD
  obtain ⟨h_1, f_1⟩ := h_1
  have h_1 : r_1 = (splitP st L (orT L w_)) := h_1
  try rw [h_1] at f_1
  have f_1 : (∀ i, i < lenC (splitP st L) L 0 → bI (rb u_1.1.2.2.2 u_1.1.2.2.1 i) = bitS (splitP st L) L i 0) ∧ BW u_1.1.2.1 u_1.1.2.2.1 u_1.1.2.2.2 ∧ lenC (splitP st L) L 0 ≤ 1344 ∧ wn ≤ u_1.1.2.1 ∧ u_1.1.2.1 ≤ 44 := f_1
  rw [h_1]
  have hcf := f_1
  refine lv_i2l (v := (splitP st L (orT L w_)).toInt64) hx hb dX0_partByCode_7 rfl ?_
  refine N_last (ws' := [oC h ad sn hsh, oX (ad 1) 1 [.ref (ad 11), .int (nI L), .int stp, .int why], aI G (ad 11) 64 st, oX (ad 3) 5 [.ref (ad 12)], aI G (ad 12) 8 u_1.2, aI G (ad 6) 64 (splitP st L), aR G (ad 2) 3 (orF ad), oX (ad (15 + L)) 2 [.ref (ad (16 + 3 * L)), .ref (ad (17 + 3 * L)), .ref (ad (18 + 3 * L)), .int (nI 64)], aI G (ad (16 + 3 * L)) 64 (nF (orT L)), oX (ad 5) 7 [.ref (ad 14), .ref (ad 15), .int (nI (lenC (splitP st L) L 0)), .int (nI (lenC (splitP st L) L 0))], oX (ad 14) 10 [.ref u_1.1.1, .int (nI u_1.1.2.2.1), .int (bI false)], aJ G u_1.1.1 u_1.1.2.1 u_1.1.2.2.2, aI G (ad 15) 64 (fun j => splitP st L (orT L j)), aJ G ou 1 (vp_updL ov 0 ((splitP st L (orT L w_)).toInt64))]) hx hb dX0_partByCode_8 hK hP hD hS 13 2 rfl rfl (by omega) (by omega) rfl (fun H locs hP hD hS => ?_)
  refine lv_goto (tgt := 15) hx hb dX0_partByCode_9 (by decide) ?_
  refine lv_iconst (v := nI 0) hx hb dX0_partByCode_15 (by decide) ?_
  rw [hQQ]
  exact vx_ret (rt_i hx hb hr hlk  u_1 dX0_partByCode_16 hP hD hS (by first | exact Nat.le_of_ble_eq_true rfl | (simp only [rm_X0_partByCode_t, rm_X1_partByCode_t]; omega) | omega) (by first | exact Nat.le_of_ble_eq_true rfl | (simp only [rm_X0_partByCode_t, rm_X1_partByCode_t]; omega) | omega) ⟨(by rfl), by exact hcf⟩)
def rm_X0_codeLengthWith_t : Room := ({ frames := 13, cells := 44, slots := 88, locals := 441 } : Room)
set_option maxHeartbeats 400000 in
set_option maxRecDepth 100000 in
theorem t_X0_codeLengthWith_t (l : Launch) (G : GG) (b0 sz : Nat) (h : Nat) (ad : Nat → Nat) (sn : Value) (hsh : Int64) (L : Nat) (stp why : Int32) (st : Nat → Int32) (li : Nat → Int32) (ot : Nat → Int32) (ln at_ : Nat) (wa wu : Nat) (wn : Nat) (w : Nat → Int64) (k9 : Nat) (ou : Nat) (ov : Nat → Int64) (h91 : 1 ≤ k9) (h93 : k9 ≤ 3) (hB : BW wn wu w) (hwn : wn ≤ 44) (hbd : bdP (splitP st k9)) : CTW l yX0_codeLengthWith cX0_codeLengthWith 4 (some FieldType.int) [(0, 9, 12, 15)] (rm_X0_codeLengthWith_t) G b0 [.ref h, .int (nI k9), .ref ou] [oC h ad sn hsh, oX (ad 1) 1 [.ref (ad 11), .int (nI L), .int stp, .int why], aI G (ad 11) 64 st, oX (ad 3) 5 [.ref (ad 12)], aI G (ad 12) 8 li, aI G (ad 7) 64 ot, aR G (ad 2) 3 (orF ad), oX (ad (15 + k9)) 2 [.ref (ad (16 + 3 * k9)), .ref (ad (17 + 3 * k9)), .ref (ad (18 + 3 * k9)), .int (nI 64)], aI G (ad (16 + 3 * k9)) 64 (nF (orT k9)), oX (ad 5) 7 [.ref (ad 14), .ref (ad 15), .int (nI ln), .int (nI at_)], oX (ad 14) 10 [.ref wa, .int (nI wu), .int (bI false)], aJ G wa wn w, aJ G ou 1 ov] sz (Ri G (fun (r_ : Int32) (u : (Nat × Nat × Nat × (Nat → Int64)) × (Nat → Int32)) => r_ = nI 0 ∧ (∀ i, i < lenC (splitP st k9) k9 0 → bI (rb u.1.2.2.2 u.1.2.2.1 i) = bitS (splitP st k9) k9 i 0) ∧ BW u.1.2.1 u.1.2.2.1 u.1.2.2.2 ∧ lenC (splitP st k9) k9 0 ≤ 1344 ∧ wn ≤ u.1.2.1 ∧ u.1.2.1 ≤ 44) (fun (u : (Nat × Nat × Nat × (Nat → Int64)) × (Nat → Int32)) => [oC h ad sn hsh, oX (ad 1) 1 [.ref (ad 11), .int (nI L), .int stp, .int why], aI G (ad 11) 64 st, oX (ad 3) 5 [.ref (ad 12)], aI G (ad 12) 8 u.2, aI G (ad 7) 64 (splitP st k9), aR G (ad 2) 3 (orF ad), oX (ad (15 + k9)) 2 [.ref (ad (16 + 3 * k9)), .ref (ad (17 + 3 * k9)), .ref (ad (18 + 3 * k9)), .int (nI 64)], aI G (ad (16 + 3 * k9)) 64 (nF (orT k9)), oX (ad 5) 7 [.ref (ad 14), .ref (ad 15), .int (nI (lenC (splitP st k9) k9 0)), .int (nI at_)], oX (ad 14) 10 [.ref u.1.1, .int (nI u.1.2.2.1), .int (bI false)], aJ G u.1.1 u.1.2.1 u.1.2.2.2, aJ G ou 1 (vp_updL ov 0 ((nI (lenC (splitP st k9) k9 0)).toInt64))])) := by
  refine CTW.go (by decide) (Nat.le_of_ble_eq_true rfl) (fun p e s m below meth c A ls AR QQ hx hb hr hlk hml hown hnm hts hE hA hAb hsz hP hD hS hl htab hQQ => ?_)
  have hK := hE.1
  have hown : s.vm.findClass RX0 = some m.cls := hown
  have hl : lv_has ls 4 [(0, .ref h), (1, .int (nI k9)), (2, .ref ou)] := hl
  clear hsz
  refine lv_aload_n hx hb dX0_codeLengthWith_0 rfl (lv_at hl 2 rfl) ?_
  refine lv_iconst (v := nI 0) hx hb dX0_codeLengthWith_1 (by decide) ?_
  refine lv_aload_n hx hb dX0_codeLengthWith_2 rfl (lv_at hl 0 rfl) ?_
  refine lv_iload_n hx hb dX0_codeLengthWith_3 rfl (lv_at hl 1 rfl) ?_
  refine fin_i (ws' := (fun (u_1 : (Nat × Nat × Nat × (Nat → Int64)) × (Nat → Int32)) => [oC h ad sn hsh, oX (ad 1) 1 [.ref (ad 11), .int (nI L), .int stp, .int why], aI G (ad 11) 64 st, oX (ad 3) 5 [.ref (ad 12)], aI G (ad 12) 8 u_1.2, aI G (ad 7) 64 (splitP st k9), aR G (ad 2) 3 (orF ad), oX (ad (15 + k9)) 2 [.ref (ad (16 + 3 * k9)), .ref (ad (17 + 3 * k9)), .ref (ad (18 + 3 * k9)), .int (nI 64)], aI G (ad (16 + 3 * k9)) 64 (nF (orT k9)), oX (ad 5) 7 [.ref (ad 14), .ref (ad 15), .int (nI (lenC (splitP st k9) k9 0)), .int (nI at_)], oX (ad 14) 10 [.ref u_1.1.1, .int (nI u_1.1.2.2.1), .int (bI false)], aJ G u_1.1.1 u_1.1.2.1 u_1.1.2.2.2, aJ G ou 1 ov])) hA hS hP hD [0, 1, 2, 3, 4, 5, 6, 7, 8, 9, 10, 11] rfl [(true, 0), (true, 1), (true, 2), (true, 3), (true, 4), (true, 5), (true, 6), (true, 7), (true, 8), (true, 9), (true, 10), (true, 11), (false, 12)] (fun _ => rfl) (by decide) (run_V (As := [.int (nI k9)]) (rest := [.int (nI 0), .ref ou]) (n9 := 1) hx hb hml hown hts hE hAb hl.1 hS hP hD [0, 1, 2, 3, 4, 5, 6, 7, 8, 9, 10, 11] rfl (by decide) (t_X1_codeLengthWith_t l G b0 _ h ad sn hsh L stp why st li ot ln at_ wa wu wn w k9 (by exact h91) (by exact h93) (by exact hB) (by exact hwn) (by exact hbd)) (lw_V q1650 q1651 q1652 q106 q1653) 0 rfl rfl ⟨rfl, by decide, by decide, by decide +kernel⟩ ⟨Nat.le_of_ble_eq_true rfl, Nat.le_of_ble_eq_true rfl⟩ ⟨by first | exact Nat.le_of_ble_eq_true rfl | (simp only [rm_X0_codeLengthWith_t, rm_X1_codeLengthWith_t]; omega), by first | exact Nat.le_of_ble_eq_true rfl | (simp only [rm_X0_codeLengthWith_t, rm_X1_codeLengthWith_t]; omega)⟩ dX0_codeLengthWith_4 (Nat.le_of_ble_eq_true rfl) rfl rfl) (fun r_1 u_1 H locs h_1 hP hD hS => ?_)
  have hP : va_P G.1 vwCl [oC h ad sn hsh, oX (ad 1) 1 [.ref (ad 11), .int (nI L), .int stp, .int why], aI G (ad 11) 64 st, oX (ad 3) 5 [.ref (ad 12)], aI G (ad 12) 8 u_1.2, aI G (ad 7) 64 (splitP st k9), aR G (ad 2) 3 (orF ad), oX (ad (15 + k9)) 2 [.ref (ad (16 + 3 * k9)), .ref (ad (17 + 3 * k9)), .ref (ad (18 + 3 * k9)), .int (nI 64)], aI G (ad (16 + 3 * k9)) 64 (nF (orT k9)), oX (ad 5) 7 [.ref (ad 14), .ref (ad 15), .int (nI (lenC (splitP st k9) k9 0)), .int (nI at_)], oX (ad 14) 10 [.ref u_1.1.1, .int (nI u_1.1.2.2.1), .int (bI false)], aJ G u_1.1.1 u_1.1.2.1 u_1.1.2.2.2, aJ G ou 1 ov] _ := hP
  have hD : va_D A [oC h ad sn hsh, oX (ad 1) 1 [.ref (ad 11), .int (nI L), .int stp, .int why], aI G (ad 11) 64 st, oX (ad 3) 5 [.ref (ad 12)], aI G (ad 12) 8 u_1.2, aI G (ad 7) 64 (splitP st k9), aR G (ad 2) 3 (orF ad), oX (ad (15 + k9)) 2 [.ref (ad (16 + 3 * k9)), .ref (ad (17 + 3 * k9)), .ref (ad (18 + 3 * k9)), .int (nI 64)], aI G (ad (16 + 3 * k9)) 64 (nF (orT k9)), oX (ad 5) 7 [.ref (ad 14), .ref (ad 15), .int (nI (lenC (splitP st k9) k9 0)), .int (nI at_)], oX (ad 14) 10 [.ref u_1.1.1, .int (nI u_1.1.2.2.1), .int (bI false)], aJ G u_1.1.1 u_1.1.2.1 u_1.1.2.2.2, aJ G ou 1 ov] := hD
  obtain ⟨h_1, f_1⟩ := h_1
  have h_1 : r_1 = (nI (lenC (splitP st k9) k9 0)) := h_1
  try rw [h_1] at f_1
  have f_1 : (∀ i, i < lenC (splitP st k9) k9 0 → bI (rb u_1.1.2.2.2 u_1.1.2.2.1 i) = bitS (splitP st k9) k9 i 0) ∧ BW u_1.1.2.1 u_1.1.2.2.1 u_1.1.2.2.2 ∧ lenC (splitP st k9) k9 0 ≤ 1344 ∧ wn ≤ u_1.1.2.1 ∧ u_1.1.2.1 ≤ 44 := f_1
  rw [h_1]
  have hcf := f_1
  refine lv_i2l (v := (nI (lenC (splitP st k9) k9 0)).toInt64) hx hb dX0_codeLengthWith_7 rfl ?_
  refine N_last (ws' := [oC h ad sn hsh, oX (ad 1) 1 [.ref (ad 11), .int (nI L), .int stp, .int why], aI G (ad 11) 64 st, oX (ad 3) 5 [.ref (ad 12)], aI G (ad 12) 8 u_1.2, aI G (ad 7) 64 (splitP st k9), aR G (ad 2) 3 (orF ad), oX (ad (15 + k9)) 2 [.ref (ad (16 + 3 * k9)), .ref (ad (17 + 3 * k9)), .ref (ad (18 + 3 * k9)), .int (nI 64)], aI G (ad (16 + 3 * k9)) 64 (nF (orT k9)), oX (ad 5) 7 [.ref (ad 14), .ref (ad 15), .int (nI (lenC (splitP st k9) k9 0)), .int (nI at_)], oX (ad 14) 10 [.ref u_1.1.1, .int (nI u_1.1.2.2.1), .int (bI false)], aJ G u_1.1.1 u_1.1.2.1 u_1.1.2.2.2, aJ G ou 1 (vp_updL ov 0 ((nI (lenC (splitP st k9) k9 0)).toInt64))]) hx hb dX0_codeLengthWith_8 hK hP hD hS 12 2 rfl rfl (by omega) (by omega) rfl (fun H locs hP hD hS => ?_)
  refine lv_goto (tgt := 15) hx hb dX0_codeLengthWith_9 (by decide) ?_
  refine lv_iconst (v := nI 0) hx hb dX0_codeLengthWith_15 (by decide) ?_
  rw [hQQ]
  exact vx_ret (rt_i hx hb hr hlk  u_1 dX0_codeLengthWith_16 hP hD hS (by first | exact Nat.le_of_ble_eq_true rfl | (simp only [rm_X0_codeLengthWith_t, rm_X1_codeLengthWith_t]; omega) | omega) (by first | exact Nat.le_of_ble_eq_true rfl | (simp only [rm_X0_codeLengthWith_t, rm_X1_codeLengthWith_t]; omega) | omega) ⟨(by rfl), by exact hcf⟩)
def rm_X0_codeLengthWithout_t : Room := ({ frames := 13, cells := 44, slots := 88, locals := 441 } : Room)
set_option maxHeartbeats 400000 in
set_option maxRecDepth 100000 in
theorem t_X0_codeLengthWithout_t (l : Launch) (G : GG) (b0 sz : Nat) (h : Nat) (ad : Nat → Nat) (sn : Value) (hsh : Int64) (L : Nat) (stp why : Int32) (st : Nat → Int32) (li : Nat → Int32) (pa : Nat → Int32) (ot : Nat → Int32) (ln at_ : Nat) (wa wu : Nat) (wn : Nat) (w : Nat → Int64) (t : Int32) (ou : Nat) (ov : Nat → Int64) (hL1 : 1 ≤ L) (hL : L ≤ 3) (hB : BW wn wu w) (hwn : wn ≤ 44) (htt : isSh t = true) (hbd : bdP (splitP st L)) : CTW l yX0_codeLengthWithout cX0_codeLengthWithout 4 (some FieldType.int) [(0, 9, 12, 15)] (rm_X0_codeLengthWithout_t) G b0 [.ref h, .int t, .ref ou] [oC h ad sn hsh, oX (ad 1) 1 [.ref (ad 11), .int (nI L), .int stp, .int why], aI G (ad 11) 64 st, oX (ad 3) 5 [.ref (ad 12)], aI G (ad 12) 8 li, aI G (ad 6) 64 pa, aI G (ad 7) 64 ot, aR G (ad 2) 3 (orF ad), oX (ad (15 + L)) 2 [.ref (ad (16 + 3 * L)), .ref (ad (17 + 3 * L)), .ref (ad (18 + 3 * L)), .int (nI 64)], aI G (ad (18 + 3 * L)) 64 (nF (bnT L)), aI G (ad (16 + 3 * L)) 64 (nF (orT L)), oX (ad 5) 7 [.ref (ad 14), .ref (ad 15), .int (nI ln), .int (nI at_)], oX (ad 14) 10 [.ref wa, .int (nI wu), .int (bI false)], aJ G wa wn w, aJ G ou 1 ov] sz (Ri G (fun (r_ : Int32) (u : (Nat × Nat × Nat × (Nat → Int64)) × (Nat → Int32)) => r_ = nI 0 ∧ (∀ i, i < lenC (drpA L t (splitP st L)) L 0 → bI (rb u.1.2.2.2 u.1.2.2.1 i) = bitS (drpA L t (splitP st L)) L i 0) ∧ BW u.1.2.1 u.1.2.2.1 u.1.2.2.2 ∧ lenC (drpA L t (splitP st L)) L 0 ≤ 1344 ∧ wn ≤ u.1.2.1 ∧ u.1.2.1 ≤ 44) (fun (u : (Nat × Nat × Nat × (Nat → Int64)) × (Nat → Int32)) => [oC h ad sn hsh, oX (ad 1) 1 [.ref (ad 11), .int (nI L), .int stp, .int why], aI G (ad 11) 64 st, oX (ad 3) 5 [.ref (ad 12)], aI G (ad 12) 8 u.2, aI G (ad 6) 64 (splitP st L), aI G (ad 7) 64 (drpA L t (splitP st L)), aR G (ad 2) 3 (orF ad), oX (ad (15 + L)) 2 [.ref (ad (16 + 3 * L)), .ref (ad (17 + 3 * L)), .ref (ad (18 + 3 * L)), .int (nI 64)], aI G (ad (18 + 3 * L)) 64 (nF (bnT L)), aI G (ad (16 + 3 * L)) 64 (nF (orT L)), oX (ad 5) 7 [.ref (ad 14), .ref (ad 15), .int (nI (lenC (drpA L t (splitP st L)) L 0)), .int (nI at_)], oX (ad 14) 10 [.ref u.1.1, .int (nI u.1.2.2.1), .int (bI false)], aJ G u.1.1 u.1.2.1 u.1.2.2.2, aJ G ou 1 (vp_updL ov 0 ((nI (lenC (drpA L t (splitP st L)) L 0)).toInt64))])) := by
  refine CTW.go (by decide) (Nat.le_of_ble_eq_true rfl) (fun p e s m below meth c A ls AR QQ hx hb hr hlk hml hown hnm hts hE hA hAb hsz hP hD hS hl htab hQQ => ?_)
  have hK := hE.1
  have hown : s.vm.findClass RX0 = some m.cls := hown
  have hl : lv_has ls 4 [(0, .ref h), (1, .int t), (2, .ref ou)] := hl
  clear hsz
  refine lv_aload_n hx hb dX0_codeLengthWithout_0 rfl (lv_at hl 2 rfl) ?_
  refine lv_iconst (v := nI 0) hx hb dX0_codeLengthWithout_1 (by decide) ?_
  refine lv_aload_n hx hb dX0_codeLengthWithout_2 rfl (lv_at hl 0 rfl) ?_
  refine lv_iload_n hx hb dX0_codeLengthWithout_3 rfl (lv_at hl 1 rfl) ?_
  refine fin_i (ws' := (fun (u_1 : (Nat × Nat × Nat × (Nat → Int64)) × (Nat → Int32)) => [oC h ad sn hsh, oX (ad 1) 1 [.ref (ad 11), .int (nI L), .int stp, .int why], aI G (ad 11) 64 st, oX (ad 3) 5 [.ref (ad 12)], aI G (ad 12) 8 u_1.2, aI G (ad 6) 64 (splitP st L), aI G (ad 7) 64 (drpA L t (splitP st L)), aR G (ad 2) 3 (orF ad), oX (ad (15 + L)) 2 [.ref (ad (16 + 3 * L)), .ref (ad (17 + 3 * L)), .ref (ad (18 + 3 * L)), .int (nI 64)], aI G (ad (18 + 3 * L)) 64 (nF (bnT L)), aI G (ad (16 + 3 * L)) 64 (nF (orT L)), oX (ad 5) 7 [.ref (ad 14), .ref (ad 15), .int (nI (lenC (drpA L t (splitP st L)) L 0)), .int (nI at_)], oX (ad 14) 10 [.ref u_1.1.1, .int (nI u_1.1.2.2.1), .int (bI false)], aJ G u_1.1.1 u_1.1.2.1 u_1.1.2.2.2, aJ G ou 1 ov])) hA hS hP hD [0, 1, 2, 3, 4, 5, 6, 7, 8, 9, 10, 11, 12, 13] rfl [(true, 0), (true, 1), (true, 2), (true, 3), (true, 4), (true, 5), (true, 6), (true, 7), (true, 8), (true, 9), (true, 10), (true, 11), (true, 12), (true, 13), (false, 14)] (fun _ => rfl) (by decide) (run_V (As := [.int t]) (rest := [.int (nI 0), .ref ou]) (n9 := 1) hx hb hml hown hts hE hAb hl.1 hS hP hD [0, 1, 2, 3, 4, 5, 6, 7, 8, 9, 10, 11, 12, 13] rfl (by decide) (t_X1_codeLengthWithout_t l G b0 _ h ad sn hsh L stp why st li pa ot ln at_ wa wu wn w t (by exact hL1) (by exact hL) (by exact hB) (by exact hwn) (by exact htt) (by exact hbd)) (lw_V q1657 q1658 q1659 q106 q1660) 0 rfl rfl ⟨rfl, by decide, by decide, by decide +kernel⟩ ⟨Nat.le_of_ble_eq_true rfl, Nat.le_of_ble_eq_true rfl⟩ ⟨by first | exact Nat.le_of_ble_eq_true rfl | (simp only [rm_X0_codeLengthWithout_t, rm_X1_codeLengthWithout_t]; omega), by first | exact Nat.le_of_ble_eq_true rfl | (simp only [rm_X0_codeLengthWithout_t, rm_X1_codeLengthWithout_t]; omega)⟩ dX0_codeLengthWithout_4 (Nat.le_of_ble_eq_true rfl) rfl rfl) (fun r_1 u_1 H locs h_1 hP hD hS => ?_)
  have hP : va_P G.1 vwCl [oC h ad sn hsh, oX (ad 1) 1 [.ref (ad 11), .int (nI L), .int stp, .int why], aI G (ad 11) 64 st, oX (ad 3) 5 [.ref (ad 12)], aI G (ad 12) 8 u_1.2, aI G (ad 6) 64 (splitP st L), aI G (ad 7) 64 (drpA L t (splitP st L)), aR G (ad 2) 3 (orF ad), oX (ad (15 + L)) 2 [.ref (ad (16 + 3 * L)), .ref (ad (17 + 3 * L)), .ref (ad (18 + 3 * L)), .int (nI 64)], aI G (ad (18 + 3 * L)) 64 (nF (bnT L)), aI G (ad (16 + 3 * L)) 64 (nF (orT L)), oX (ad 5) 7 [.ref (ad 14), .ref (ad 15), .int (nI (lenC (drpA L t (splitP st L)) L 0)), .int (nI at_)], oX (ad 14) 10 [.ref u_1.1.1, .int (nI u_1.1.2.2.1), .int (bI false)], aJ G u_1.1.1 u_1.1.2.1 u_1.1.2.2.2, aJ G ou 1 ov] _ := hP
  have hD : va_D A [oC h ad sn hsh, oX (ad 1) 1 [.ref (ad 11), .int (nI L), .int stp, .int why], aI G (ad 11) 64 st, oX (ad 3) 5 [.ref (ad 12)], aI G (ad 12) 8 u_1.2, aI G (ad 6) 64 (splitP st L), aI G (ad 7) 64 (drpA L t (splitP st L)), aR G (ad 2) 3 (orF ad), oX (ad (15 + L)) 2 [.ref (ad (16 + 3 * L)), .ref (ad (17 + 3 * L)), .ref (ad (18 + 3 * L)), .int (nI 64)], aI G (ad (18 + 3 * L)) 64 (nF (bnT L)), aI G (ad (16 + 3 * L)) 64 (nF (orT L)), oX (ad 5) 7 [.ref (ad 14), .ref (ad 15), .int (nI (lenC (drpA L t (splitP st L)) L 0)), .int (nI at_)], oX (ad 14) 10 [.ref u_1.1.1, .int (nI u_1.1.2.2.1), .int (bI false)], aJ G u_1.1.1 u_1.1.2.1 u_1.1.2.2.2, aJ G ou 1 ov] := hD
  obtain ⟨h_1, f_1⟩ := h_1
  have h_1 : r_1 = (nI (lenC (drpA L t (splitP st L)) L 0)) := h_1
  try rw [h_1] at f_1
  have f_1 : (∀ i, i < lenC (drpA L t (splitP st L)) L 0 → bI (rb u_1.1.2.2.2 u_1.1.2.2.1 i) = bitS (drpA L t (splitP st L)) L i 0) ∧ BW u_1.1.2.1 u_1.1.2.2.1 u_1.1.2.2.2 ∧ lenC (drpA L t (splitP st L)) L 0 ≤ 1344 ∧ wn ≤ u_1.1.2.1 ∧ u_1.1.2.1 ≤ 44 := f_1
  rw [h_1]
  have hcf := f_1
  refine lv_i2l (v := (nI (lenC (drpA L t (splitP st L)) L 0)).toInt64) hx hb dX0_codeLengthWithout_7 rfl ?_
  refine N_last (ws' := [oC h ad sn hsh, oX (ad 1) 1 [.ref (ad 11), .int (nI L), .int stp, .int why], aI G (ad 11) 64 st, oX (ad 3) 5 [.ref (ad 12)], aI G (ad 12) 8 u_1.2, aI G (ad 6) 64 (splitP st L), aI G (ad 7) 64 (drpA L t (splitP st L)), aR G (ad 2) 3 (orF ad), oX (ad (15 + L)) 2 [.ref (ad (16 + 3 * L)), .ref (ad (17 + 3 * L)), .ref (ad (18 + 3 * L)), .int (nI 64)], aI G (ad (18 + 3 * L)) 64 (nF (bnT L)), aI G (ad (16 + 3 * L)) 64 (nF (orT L)), oX (ad 5) 7 [.ref (ad 14), .ref (ad 15), .int (nI (lenC (drpA L t (splitP st L)) L 0)), .int (nI at_)], oX (ad 14) 10 [.ref u_1.1.1, .int (nI u_1.1.2.2.1), .int (bI false)], aJ G u_1.1.1 u_1.1.2.1 u_1.1.2.2.2, aJ G ou 1 (vp_updL ov 0 ((nI (lenC (drpA L t (splitP st L)) L 0)).toInt64))]) hx hb dX0_codeLengthWithout_8 hK hP hD hS 14 2 rfl rfl (by omega) (by omega) rfl (fun H locs hP hD hS => ?_)
  refine lv_goto (tgt := 15) hx hb dX0_codeLengthWithout_9 (by decide) ?_
  refine lv_iconst (v := nI 0) hx hb dX0_codeLengthWithout_15 (by decide) ?_
  rw [hQQ]
  exact vx_ret (rt_i hx hb hr hlk  u_1 dX0_codeLengthWithout_16 hP hD hS (by first | exact Nat.le_of_ble_eq_true rfl | (simp only [rm_X0_codeLengthWithout_t, rm_X1_codeLengthWithout_t]; omega) | omega) (by first | exact Nat.le_of_ble_eq_true rfl | (simp only [rm_X0_codeLengthWithout_t, rm_X1_codeLengthWithout_t]; omega) | omega) ⟨(by rfl), by exact hcf⟩)
def rm_X0_setShade_t : Room := ({ frames := 13, cells := 4, slots := 80, locals := 444 } : Room)
set_option maxHeartbeats 400000 in
set_option maxRecDepth 100000 in
theorem t_X0_setShade_t (l : Launch) (G : GG) (b0 sz : Nat) (h : Nat) (ad : Nat → Nat) (sn : Value) (hsh : Int64) (L : Nat) (stp why : Int32) (st : Nat → Int32) (r c_ : Nat) (t : Int32) (xs : List svR) (T : va_W) (ou : Nat) (ov : Nat → Int64) (hr_ : r < 8) (hc_ : c_ < 8) (htt : isSh t = true) (hSV : SV G (ad 9) xs T) : CTW l yX0_setShade cX0_setShade 6 (some FieldType.int) [(0, 12, 15, 13), (0, 12, 19, 15)] (rm_X0_setShade_t) G b0 [.ref h, .int (nI r), .int (nI c_), .int t, .ref ou] ([oC h ad sn hsh, oX (ad 1) 1 [.ref (ad 11), .int (nI L), .int stp, .int why], aI G (ad 11) 64 st, aJ G ou 1 ov] ++ T) sz (Ri G (fun (r_ : Int32) (u : va_W) => r_ = nI 0 ∧ ∃ o a : Nat, SV G (ad 9) (svP xs (o, a, st, L, stp, why)) u) (fun (u : va_W) => ([oC h ad sn hsh, oX (ad 1) 1 [.ref (ad 11), .int (nI L), .int stp, .int why], aI G (ad 11) 64 (upd st (8 * r + c_) t), aJ G ou 1 (vp_updL ov 0 ((st (8 * r + c_)).toInt64))] ++ u))) := by
  refine CTW.go (by decide) (Nat.le_of_ble_eq_true rfl) (fun p e s m below meth c A ls AR QQ hx hb hr hlk hml hown hnm hts hE hA hAb hsz hP hD hS hl htab hQQ => ?_)
  have hK := hE.1
  have hown : s.vm.findClass RX0 = some m.cls := hown
  have hl : lv_has ls 6 [(0, .ref h), (1, .int (nI r)), (2, .int (nI c_)), (3, .int t), (4, .ref ou)] := hl
  clear hsz
  refine lv_aload hx hb dX0_setShade_0 (lv_at hl 4 rfl) ?_
  refine lv_iconst (v := nI 0) hx hb dX0_setShade_2 (by decide) ?_
  refine lv_aload_n hx hb dX0_setShade_3 rfl (lv_at hl 0 rfl) ?_
  refine lv_iload_n hx hb dX0_setShade_4 rfl (lv_at hl 1 rfl) ?_
  refine lv_iload_n hx hb dX0_setShade_5 rfl (lv_at hl 2 rfl) ?_
  refine lv_iload_n hx hb dX0_setShade_6 rfl (lv_at hl 3 rfl) ?_
  have hF_1 := fr_free (wc := [oC h ad sn hsh, oX (ad 1) 1 [.ref (ad 11), .int (nI L), .int stp, .int why], aI G (ad 11) 64 st] ++ T) (isT [0, 1, 2] 4 T) (isT_C (ws := [oC h ad sn hsh, oX (ad 1) 1 [.ref (ad 11), .int (nI L), .int stp, .int why], aI G (ad 11) 64 st, aJ G ou 1 ov]) (wc := [oC h ad sn hsh, oX (ad 1) 1 [.ref (ad 11), .int (nI L), .int stp, .int why], aI G (ad 11) 64 st]) rfl) hA hS hD
  refine fin_iF (ws' := (fun (u_1 : va_W) => ([oC h ad sn hsh, oX (ad 1) 1 [.ref (ad 11), .int (nI L), .int stp, .int why], aI G (ad 11) 64 (upd st (8 * r + c_) t), aJ G ou 1 ov] ++ u_1))) hS hF_1 (run_V (As := [.int (nI r), .int (nI c_), .int t]) (rest := [.int (nI 0), .ref ou]) (n9 := 3) hx hb hml hown hts hE hAb hl.1 hS hP hD (isT [0, 1, 2] 4 T) (isT_C (ws := [oC h ad sn hsh, oX (ad 1) 1 [.ref (ad 11), .int (nI L), .int stp, .int why], aI G (ad 11) 64 st, aJ G ou 1 ov]) (wc := [oC h ad sn hsh, oX (ad 1) 1 [.ref (ad 11), .int (nI L), .int stp, .int why], aI G (ad 11) 64 st]) rfl) (isT_n (by decide)) (t_X1_setShade_t l G b0 _ h ad sn hsh L stp why st r c_ t xs T (by exact hr_) (by exact hc_) (by exact htt) (by exact hSV)) (lw_V q1356 q1357 q1358 q106 q1359) 0 rfl rfl ⟨rfl, by decide, by decide, by decide +kernel⟩ ⟨Nat.le_of_ble_eq_true rfl, Nat.le_of_ble_eq_true rfl⟩ ⟨by first | exact Nat.le_of_ble_eq_true rfl | (simp only [rm_X0_setShade_t, rm_X1_setShade_t]; omega), by first | exact Nat.le_of_ble_eq_true rfl | (simp only [rm_X0_setShade_t, rm_X1_setShade_t]; omega)⟩ dX0_setShade_7 (Nat.le_of_ble_eq_true rfl) rfl rfl) (fun u_1 H1_ hk_ hp_ hd_ => fr_selP (w1 := [oC h ad sn hsh, oX (ad 1) 1 [.ref (ad 11), .int (nI L), .int stp, .int why], aI G (ad 11) 64 (upd st (8 * r + c_) t)]) (ws := [oC h ad sn hsh, oX (ad 1) 1 [.ref (ad 11), .int (nI L), .int stp, .int why], aI G (ad 11) 64 st, aJ G ou 1 ov]) (wc := [oC h ad sn hsh, oX (ad 1) 1 [.ref (ad 11), .int (nI L), .int stp, .int why], aI G (ad 11) 64 st]) (ws' := [oC h ad sn hsh, oX (ad 1) 1 [.ref (ad 11), .int (nI L), .int stp, .int why], aI G (ad 11) 64 (upd st (8 * r + c_) t), aJ G ou 1 ov]) (tl := T) [0, 1, 2] [(true, 0), (true, 1), (true, 2), (false, 3)] 3 rfl rfl rfl (by decide) hP hD hk_ hF_1 hp_ hd_) (fun r_1 u_1 H locs h_1 hP hD hS => ?_)
  have hP : va_P G.1 vwCl ([oC h ad sn hsh, oX (ad 1) 1 [.ref (ad 11), .int (nI L), .int stp, .int why], aI G (ad 11) 64 (upd st (8 * r + c_) t), aJ G ou 1 ov] ++ u_1) _ := hP
  have hD : va_D A ([oC h ad sn hsh, oX (ad 1) 1 [.ref (ad 11), .int (nI L), .int stp, .int why], aI G (ad 11) 64 (upd st (8 * r + c_) t), aJ G ou 1 ov] ++ u_1) := hD
  obtain ⟨h_1, f_1⟩ := h_1
  have h_1 : r_1 = (st (8 * r + c_)) := h_1
  try rw [h_1] at f_1
  have f_1 : ∃ o a : Nat, SV G (ad 9) (svP xs (o, a, st, L, stp, why)) u_1 := f_1
  rw [h_1]
  have hcf := f_1
  refine lv_i2l (v := (st (8 * r + c_)).toInt64) hx hb dX0_setShade_10 rfl ?_
  refine N_last (ws' := ([oC h ad sn hsh, oX (ad 1) 1 [.ref (ad 11), .int (nI L), .int stp, .int why], aI G (ad 11) 64 (upd st (8 * r + c_) t), aJ G ou 1 (vp_updL ov 0 ((st (8 * r + c_)).toInt64))] ++ u_1)) hx hb dX0_setShade_11 hK hP hD hS 3 2 rfl rfl (by omega) (by omega) rfl (fun H locs hP hD hS => ?_)
  refine lv_goto (tgt := 23) hx hb dX0_setShade_12 (by decide) ?_
  refine lv_iconst (v := nI 0) hx hb dX0_setShade_23 (by decide) ?_
  rw [hQQ]
  exact vx_ret (rt_i hx hb hr hlk  u_1 dX0_setShade_24 hP hD hS (by first | exact Nat.le_of_ble_eq_true rfl | (simp only [rm_X0_setShade_t, rm_X1_setShade_t]; omega) | omega) (by first | exact Nat.le_of_ble_eq_true rfl | (simp only [rm_X0_setShade_t, rm_X1_setShade_t]; omega) | omega) ⟨(by rfl), by exact hcf⟩)
def rm_X0_fillRow_t : Room := ({ frames := 13, cells := 4, slots := 80, locals := 443 } : Room)
set_option maxHeartbeats 400000 in
set_option maxRecDepth 100000 in
theorem t_X0_fillRow_t (l : Launch) (G : GG) (b0 sz : Nat) (h : Nat) (ad : Nat → Nat) (sn : Value) (hsh : Int64) (L : Nat) (stp why : Int32) (st : Nat → Int32) (r : Nat) (t b : Int32) (xs : List svR) (T : va_W) (ou : Nat) (ov : Nat → Int64) (hr_ : r < 8) (htt : isSh t = true) (hby : inB b (-36) (nI 36) = true) (h3t : isSh (t + nI 7 * b) = true) (hSV : SV G (ad 9) xs T) : CTW l yX0_fillRow cX0_fillRow 6 (some FieldType.int) [(0, 12, 15, 13), (0, 12, 19, 15), (0, 12, 23, 20)] (rm_X0_fillRow_t) G b0 [.ref h, .int (nI r), .int t, .int b, .ref ou] ([oC h ad sn hsh, oX (ad 1) 1 [.ref (ad 11), .int (nI L), .int stp, .int why], aI G (ad 11) 64 st, aJ G ou 1 ov] ++ T) sz (Ri G (fun (r_ : Int32) (u : va_W) => r_ = nI 0 ∧ ∃ o a : Nat, SV G (ad 9) (svP xs (o, a, st, L, stp, why)) u) (fun (u : va_W) => ([oC h ad sn hsh, oX (ad 1) 1 [.ref (ad 11), .int (nI L), .int stp, .int why], aI G (ad 11) 64 (rowF r t b 8 st), aJ G ou 1 (vp_updL ov 0 ((l_sum (rowN r t b st) 8).toInt64))] ++ u))) := by
  refine CTW.go (by decide) (Nat.le_of_ble_eq_true rfl) (fun p e s m below meth c A ls AR QQ hx hb hr hlk hml hown hnm hts hE hA hAb hsz hP hD hS hl htab hQQ => ?_)
  have hK := hE.1
  have hown : s.vm.findClass RX0 = some m.cls := hown
  have hl : lv_has ls 6 [(0, .ref h), (1, .int (nI r)), (2, .int t), (3, .int b), (4, .ref ou)] := hl
  clear hsz
  refine lv_aload hx hb dX0_fillRow_0 (lv_at hl 4 rfl) ?_
  refine lv_iconst (v := nI 0) hx hb dX0_fillRow_2 (by decide) ?_
  refine lv_aload_n hx hb dX0_fillRow_3 rfl (lv_at hl 0 rfl) ?_
  refine lv_iload_n hx hb dX0_fillRow_4 rfl (lv_at hl 1 rfl) ?_
  refine lv_iload_n hx hb dX0_fillRow_5 rfl (lv_at hl 2 rfl) ?_
  refine lv_iload_n hx hb dX0_fillRow_6 rfl (lv_at hl 3 rfl) ?_
  have hF_1 := fr_free (wc := [oC h ad sn hsh, oX (ad 1) 1 [.ref (ad 11), .int (nI L), .int stp, .int why], aI G (ad 11) 64 st] ++ T) (isT [0, 1, 2] 4 T) (isT_C (ws := [oC h ad sn hsh, oX (ad 1) 1 [.ref (ad 11), .int (nI L), .int stp, .int why], aI G (ad 11) 64 st, aJ G ou 1 ov]) (wc := [oC h ad sn hsh, oX (ad 1) 1 [.ref (ad 11), .int (nI L), .int stp, .int why], aI G (ad 11) 64 st]) rfl) hA hS hD
  refine fin_iF (ws' := (fun (u_1 : va_W) => ([oC h ad sn hsh, oX (ad 1) 1 [.ref (ad 11), .int (nI L), .int stp, .int why], aI G (ad 11) 64 (rowF r t b 8 st), aJ G ou 1 ov] ++ u_1))) hS hF_1 (run_V (As := [.int (nI r), .int t, .int b]) (rest := [.int (nI 0), .ref ou]) (n9 := 3) hx hb hml hown hts hE hAb hl.1 hS hP hD (isT [0, 1, 2] 4 T) (isT_C (ws := [oC h ad sn hsh, oX (ad 1) 1 [.ref (ad 11), .int (nI L), .int stp, .int why], aI G (ad 11) 64 st, aJ G ou 1 ov]) (wc := [oC h ad sn hsh, oX (ad 1) 1 [.ref (ad 11), .int (nI L), .int stp, .int why], aI G (ad 11) 64 st]) rfl) (isT_n (by decide)) (t_X1_fillRow_t l G b0 _ h ad sn hsh L stp why st r t b xs T (by exact hr_) (by exact htt) (by exact hby) (by exact h3t) (by exact hSV)) (lw_V q1388 q1389 q1390 q106 q1391) 0 rfl rfl ⟨rfl, by decide, by decide, by decide +kernel⟩ ⟨Nat.le_of_ble_eq_true rfl, Nat.le_of_ble_eq_true rfl⟩ ⟨by first | exact Nat.le_of_ble_eq_true rfl | (simp only [rm_X0_fillRow_t, rm_X1_fillRow_t]; omega), by first | exact Nat.le_of_ble_eq_true rfl | (simp only [rm_X0_fillRow_t, rm_X1_fillRow_t]; omega)⟩ dX0_fillRow_7 (Nat.le_of_ble_eq_true rfl) rfl rfl) (fun u_1 H1_ hk_ hp_ hd_ => fr_selP (w1 := [oC h ad sn hsh, oX (ad 1) 1 [.ref (ad 11), .int (nI L), .int stp, .int why], aI G (ad 11) 64 (rowF r t b 8 st)]) (ws := [oC h ad sn hsh, oX (ad 1) 1 [.ref (ad 11), .int (nI L), .int stp, .int why], aI G (ad 11) 64 st, aJ G ou 1 ov]) (wc := [oC h ad sn hsh, oX (ad 1) 1 [.ref (ad 11), .int (nI L), .int stp, .int why], aI G (ad 11) 64 st]) (ws' := [oC h ad sn hsh, oX (ad 1) 1 [.ref (ad 11), .int (nI L), .int stp, .int why], aI G (ad 11) 64 (rowF r t b 8 st), aJ G ou 1 ov]) (tl := T) [0, 1, 2] [(true, 0), (true, 1), (true, 2), (false, 3)] 3 rfl rfl rfl (by decide) hP hD hk_ hF_1 hp_ hd_) (fun r_1 u_1 H locs h_1 hP hD hS => ?_)
  have hP : va_P G.1 vwCl ([oC h ad sn hsh, oX (ad 1) 1 [.ref (ad 11), .int (nI L), .int stp, .int why], aI G (ad 11) 64 (rowF r t b 8 st), aJ G ou 1 ov] ++ u_1) _ := hP
  have hD : va_D A ([oC h ad sn hsh, oX (ad 1) 1 [.ref (ad 11), .int (nI L), .int stp, .int why], aI G (ad 11) 64 (rowF r t b 8 st), aJ G ou 1 ov] ++ u_1) := hD
  obtain ⟨h_1, f_1⟩ := h_1
  have h_1 : r_1 = (l_sum (rowN r t b st) 8) := h_1
  try rw [h_1] at f_1
  have f_1 : ∃ o a : Nat, SV G (ad 9) (svP xs (o, a, st, L, stp, why)) u_1 := f_1
  rw [h_1]
  have hcf := f_1
  refine lv_i2l (v := (l_sum (rowN r t b st) 8).toInt64) hx hb dX0_fillRow_10 rfl ?_
  refine N_last (ws' := ([oC h ad sn hsh, oX (ad 1) 1 [.ref (ad 11), .int (nI L), .int stp, .int why], aI G (ad 11) 64 (rowF r t b 8 st), aJ G ou 1 (vp_updL ov 0 ((l_sum (rowN r t b st) 8).toInt64))] ++ u_1)) hx hb dX0_fillRow_11 hK hP hD hS 3 2 rfl rfl (by omega) (by omega) rfl (fun H locs hP hD hS => ?_)
  refine lv_goto (tgt := 27) hx hb dX0_fillRow_12 (by decide) ?_
  refine lv_iconst (v := nI 0) hx hb dX0_fillRow_27 (by decide) ?_
  rw [hQQ]
  exact vx_ret (rt_i hx hb hr hlk  u_1 dX0_fillRow_28 hP hD hS (by first | exact Nat.le_of_ble_eq_true rfl | (simp only [rm_X0_fillRow_t, rm_X1_fillRow_t]; omega) | omega) (by first | exact Nat.le_of_ble_eq_true rfl | (simp only [rm_X0_fillRow_t, rm_X1_fillRow_t]; omega) | omega) ⟨(by rfl), by exact hcf⟩)
def rm_X0_setPart_t : Room := ({ frames := 13, cells := 4, slots := 80, locals := 444 } : Room)
set_option maxHeartbeats 400000 in
set_option maxRecDepth 100000 in
theorem t_X0_setPart_t (l : Launch) (G : GG) (b0 sz : Nat) (h : Nat) (ad : Nat → Nat) (sn : Value) (hsh : Int64) (L : Nat) (stp why : Int32) (st : Nat → Int32) (li : Nat → Int32) (pa : Nat → Int32) (ot : Nat → Int32) (rm : Nat → Int32) (r c_ : Nat) (t : Int32) (xs : List svR) (T : va_W) (ou : Nat) (ov : Nat → Int64) (hL1 : 1 ≤ L) (hL : L ≤ 3) (hr_ : r < 8) (hc_ : c_ < 8) (htv : inB t (-255) (nI 255) = true) (hcp : allB (shsB (joinP L (upd (splitP st L) (8 * r + c_) t))) 64 = true) (hSV : SV G (ad 9) xs T) : CTW l yX0_setPart cX0_setPart 6 (some FieldType.int) [(0, 12, 15, 13), (0, 12, 19, 15), (0, 12, 23, 20)] (rm_X0_setPart_t) G b0 [.ref h, .int (nI r), .int (nI c_), .int t, .ref ou] ([oC h ad sn hsh, oX (ad 1) 1 [.ref (ad 11), .int (nI L), .int stp, .int why], aI G (ad 11) 64 st, oX (ad 3) 5 [.ref (ad 12)], aI G (ad 12) 8 li, aI G (ad 6) 64 pa, aI G (ad 7) 64 ot, aI G (ad 8) 64 rm, aJ G ou 1 ov] ++ T) sz (Ri G (fun (r_ : Int32) (u : va_W × (Nat → Int32)) => r_ = nI 0 ∧ ∃ o a : Nat, SV G (ad 9) (svP xs (o, a, st, L, stp, why)) u.1) (fun (u : va_W × (Nat → Int32)) => ([oC h ad sn hsh, oX (ad 1) 1 [.ref (ad 11), .int (nI L), .int stp, .int why], aI G (ad 11) 64 (joinP L (upd (splitP st L) (8 * r + c_) t)), oX (ad 3) 5 [.ref (ad 12)], aI G (ad 12) 8 u.2, aI G (ad 6) 64 (splitP st L), aI G (ad 7) 64 (upd (splitP st L) (8 * r + c_) t), aI G (ad 8) 64 (joinP L (upd (splitP st L) (8 * r + c_) t)), aJ G ou 1 (vp_updL ov 0 ((splitP st L (8 * r + c_)).toInt64))] ++ u.1))) := by
  refine CTW.go (by decide) (Nat.le_of_ble_eq_true rfl) (fun p e s m below meth c A ls AR QQ hx hb hr hlk hml hown hnm hts hE hA hAb hsz hP hD hS hl htab hQQ => ?_)
  have hK := hE.1
  have hown : s.vm.findClass RX0 = some m.cls := hown
  have hl : lv_has ls 6 [(0, .ref h), (1, .int (nI r)), (2, .int (nI c_)), (3, .int t), (4, .ref ou)] := hl
  clear hsz
  refine lv_aload hx hb dX0_setPart_0 (lv_at hl 4 rfl) ?_
  refine lv_iconst (v := nI 0) hx hb dX0_setPart_2 (by decide) ?_
  refine lv_aload_n hx hb dX0_setPart_3 rfl (lv_at hl 0 rfl) ?_
  refine lv_iload_n hx hb dX0_setPart_4 rfl (lv_at hl 1 rfl) ?_
  refine lv_iload_n hx hb dX0_setPart_5 rfl (lv_at hl 2 rfl) ?_
  refine lv_iload_n hx hb dX0_setPart_6 rfl (lv_at hl 3 rfl) ?_
  have hF_1 := fr_free (wc := [oC h ad sn hsh, oX (ad 1) 1 [.ref (ad 11), .int (nI L), .int stp, .int why], aI G (ad 11) 64 st, oX (ad 3) 5 [.ref (ad 12)], aI G (ad 12) 8 li, aI G (ad 6) 64 pa, aI G (ad 7) 64 ot, aI G (ad 8) 64 rm] ++ T) (isT [0, 1, 2, 3, 4, 5, 6, 7] 9 T) (isT_C (ws := [oC h ad sn hsh, oX (ad 1) 1 [.ref (ad 11), .int (nI L), .int stp, .int why], aI G (ad 11) 64 st, oX (ad 3) 5 [.ref (ad 12)], aI G (ad 12) 8 li, aI G (ad 6) 64 pa, aI G (ad 7) 64 ot, aI G (ad 8) 64 rm, aJ G ou 1 ov]) (wc := [oC h ad sn hsh, oX (ad 1) 1 [.ref (ad 11), .int (nI L), .int stp, .int why], aI G (ad 11) 64 st, oX (ad 3) 5 [.ref (ad 12)], aI G (ad 12) 8 li, aI G (ad 6) 64 pa, aI G (ad 7) 64 ot, aI G (ad 8) 64 rm]) rfl) hA hS hD
  refine fin_iF (ws' := (fun (u_1 : va_W × (Nat → Int32)) => ([oC h ad sn hsh, oX (ad 1) 1 [.ref (ad 11), .int (nI L), .int stp, .int why], aI G (ad 11) 64 (joinP L (upd (splitP st L) (8 * r + c_) t)), oX (ad 3) 5 [.ref (ad 12)], aI G (ad 12) 8 u_1.2, aI G (ad 6) 64 (splitP st L), aI G (ad 7) 64 (upd (splitP st L) (8 * r + c_) t), aI G (ad 8) 64 (joinP L (upd (splitP st L) (8 * r + c_) t)), aJ G ou 1 ov] ++ u_1.1))) hS hF_1 (run_V (As := [.int (nI r), .int (nI c_), .int t]) (rest := [.int (nI 0), .ref ou]) (n9 := 3) hx hb hml hown hts hE hAb hl.1 hS hP hD (isT [0, 1, 2, 3, 4, 5, 6, 7] 9 T) (isT_C (ws := [oC h ad sn hsh, oX (ad 1) 1 [.ref (ad 11), .int (nI L), .int stp, .int why], aI G (ad 11) 64 st, oX (ad 3) 5 [.ref (ad 12)], aI G (ad 12) 8 li, aI G (ad 6) 64 pa, aI G (ad 7) 64 ot, aI G (ad 8) 64 rm, aJ G ou 1 ov]) (wc := [oC h ad sn hsh, oX (ad 1) 1 [.ref (ad 11), .int (nI L), .int stp, .int why], aI G (ad 11) 64 st, oX (ad 3) 5 [.ref (ad 12)], aI G (ad 12) 8 li, aI G (ad 6) 64 pa, aI G (ad 7) 64 ot, aI G (ad 8) 64 rm]) rfl) (isT_n (by decide)) (t_X1_setPart_t l G b0 _ h ad sn hsh L stp why st li pa ot rm r c_ t xs T (by exact hL1) (by exact hL) (by exact hr_) (by exact hc_) (by exact htv) (by exact hcp) (by exact hSV)) (lw_V q1417 q1418 q1419 q106 q1420) 0 rfl rfl ⟨rfl, by decide, by decide, by decide +kernel⟩ ⟨Nat.le_of_ble_eq_true rfl, Nat.le_of_ble_eq_true rfl⟩ ⟨by first | exact Nat.le_of_ble_eq_true rfl | (simp only [rm_X0_setPart_t, rm_X1_setPart_t]; omega), by first | exact Nat.le_of_ble_eq_true rfl | (simp only [rm_X0_setPart_t, rm_X1_setPart_t]; omega)⟩ dX0_setPart_7 (Nat.le_of_ble_eq_true rfl) rfl rfl) (fun u_1 H1_ hk_ hp_ hd_ => fr_selP (w1 := [oC h ad sn hsh, oX (ad 1) 1 [.ref (ad 11), .int (nI L), .int stp, .int why], aI G (ad 11) 64 (joinP L (upd (splitP st L) (8 * r + c_) t)), oX (ad 3) 5 [.ref (ad 12)], aI G (ad 12) 8 u_1.2, aI G (ad 6) 64 (splitP st L), aI G (ad 7) 64 (upd (splitP st L) (8 * r + c_) t), aI G (ad 8) 64 (joinP L (upd (splitP st L) (8 * r + c_) t))]) (ws := [oC h ad sn hsh, oX (ad 1) 1 [.ref (ad 11), .int (nI L), .int stp, .int why], aI G (ad 11) 64 st, oX (ad 3) 5 [.ref (ad 12)], aI G (ad 12) 8 li, aI G (ad 6) 64 pa, aI G (ad 7) 64 ot, aI G (ad 8) 64 rm, aJ G ou 1 ov]) (wc := [oC h ad sn hsh, oX (ad 1) 1 [.ref (ad 11), .int (nI L), .int stp, .int why], aI G (ad 11) 64 st, oX (ad 3) 5 [.ref (ad 12)], aI G (ad 12) 8 li, aI G (ad 6) 64 pa, aI G (ad 7) 64 ot, aI G (ad 8) 64 rm]) (ws' := [oC h ad sn hsh, oX (ad 1) 1 [.ref (ad 11), .int (nI L), .int stp, .int why], aI G (ad 11) 64 (joinP L (upd (splitP st L) (8 * r + c_) t)), oX (ad 3) 5 [.ref (ad 12)], aI G (ad 12) 8 u_1.2, aI G (ad 6) 64 (splitP st L), aI G (ad 7) 64 (upd (splitP st L) (8 * r + c_) t), aI G (ad 8) 64 (joinP L (upd (splitP st L) (8 * r + c_) t)), aJ G ou 1 ov]) (tl := T) [0, 1, 2, 3, 4, 5, 6, 7] [(true, 0), (true, 1), (true, 2), (true, 3), (true, 4), (true, 5), (true, 6), (true, 7), (false, 8)] 8 rfl rfl rfl (by decide) hP hD hk_ hF_1 hp_ hd_) (fun r_1 u_1 H locs h_1 hP hD hS => ?_)
  have hP : va_P G.1 vwCl ([oC h ad sn hsh, oX (ad 1) 1 [.ref (ad 11), .int (nI L), .int stp, .int why], aI G (ad 11) 64 (joinP L (upd (splitP st L) (8 * r + c_) t)), oX (ad 3) 5 [.ref (ad 12)], aI G (ad 12) 8 u_1.2, aI G (ad 6) 64 (splitP st L), aI G (ad 7) 64 (upd (splitP st L) (8 * r + c_) t), aI G (ad 8) 64 (joinP L (upd (splitP st L) (8 * r + c_) t)), aJ G ou 1 ov] ++ u_1.1) _ := hP
  have hD : va_D A ([oC h ad sn hsh, oX (ad 1) 1 [.ref (ad 11), .int (nI L), .int stp, .int why], aI G (ad 11) 64 (joinP L (upd (splitP st L) (8 * r + c_) t)), oX (ad 3) 5 [.ref (ad 12)], aI G (ad 12) 8 u_1.2, aI G (ad 6) 64 (splitP st L), aI G (ad 7) 64 (upd (splitP st L) (8 * r + c_) t), aI G (ad 8) 64 (joinP L (upd (splitP st L) (8 * r + c_) t)), aJ G ou 1 ov] ++ u_1.1) := hD
  obtain ⟨h_1, f_1⟩ := h_1
  have h_1 : r_1 = (splitP st L (8 * r + c_)) := h_1
  try rw [h_1] at f_1
  have f_1 : ∃ o a : Nat, SV G (ad 9) (svP xs (o, a, st, L, stp, why)) u_1.1 := f_1
  rw [h_1]
  have hcf := f_1
  refine lv_i2l (v := (splitP st L (8 * r + c_)).toInt64) hx hb dX0_setPart_10 rfl ?_
  refine N_last (ws' := ([oC h ad sn hsh, oX (ad 1) 1 [.ref (ad 11), .int (nI L), .int stp, .int why], aI G (ad 11) 64 (joinP L (upd (splitP st L) (8 * r + c_) t)), oX (ad 3) 5 [.ref (ad 12)], aI G (ad 12) 8 u_1.2, aI G (ad 6) 64 (splitP st L), aI G (ad 7) 64 (upd (splitP st L) (8 * r + c_) t), aI G (ad 8) 64 (joinP L (upd (splitP st L) (8 * r + c_) t)), aJ G ou 1 (vp_updL ov 0 ((splitP st L (8 * r + c_)).toInt64))] ++ u_1.1)) hx hb dX0_setPart_11 hK hP hD hS 8 2 rfl rfl (by omega) (by omega) rfl (fun H locs hP hD hS => ?_)
  refine lv_goto (tgt := 27) hx hb dX0_setPart_12 (by decide) ?_
  refine lv_iconst (v := nI 0) hx hb dX0_setPart_27 (by decide) ?_
  rw [hQQ]
  exact vx_ret (rt_i hx hb hr hlk  u_1 dX0_setPart_28 hP hD hS (by first | exact Nat.le_of_ble_eq_true rfl | (simp only [rm_X0_setPart_t, rm_X1_setPart_t]; omega) | omega) (by first | exact Nat.le_of_ble_eq_true rfl | (simp only [rm_X0_setPart_t, rm_X1_setPart_t]; omega) | omega) ⟨(by rfl), by exact hcf⟩)
def rm_X0_dropCrumbs_t : Room := ({ frames := 13, cells := 4, slots := 80, locals := 442 } : Room)
set_option maxHeartbeats 400000 in
set_option maxRecDepth 100000 in
theorem t_X0_dropCrumbs_t (l : Launch) (G : GG) (b0 sz : Nat) (h : Nat) (ad : Nat → Nat) (sn : Value) (hsh : Int64) (L : Nat) (stp why : Int32) (st : Nat → Int32) (li : Nat → Int32) (pa : Nat → Int32) (ot : Nat → Int32) (rm : Nat → Int32) (t : Int32) (xs : List svR) (T : va_W) (ou : Nat) (ov : Nat → Int64) (hL1 : 1 ≤ L) (hL : L ≤ 3) (htt : isSh t = true) (hcn : 0 < cntN (crmB L t (splitP st L)) 64) (hSV : SV G (ad 9) xs T) : CTW l yX0_dropCrumbs cX0_dropCrumbs 4 (some FieldType.int) [(0, 9, 12, 15), (0, 9, 15, 20)] (rm_X0_dropCrumbs_t) G b0 [.ref h, .int t, .ref ou] ([oC h ad sn hsh, oX (ad 1) 1 [.ref (ad 11), .int (nI L), .int stp, .int why], aI G (ad 11) 64 st, oX (ad 3) 5 [.ref (ad 12)], aI G (ad 12) 8 li, aI G (ad 6) 64 pa, aI G (ad 7) 64 ot, aI G (ad 8) 64 rm, aR G (ad 2) 3 (orF ad), oX (ad (15 + L)) 2 [.ref (ad (16 + 3 * L)), .ref (ad (17 + 3 * L)), .ref (ad (18 + 3 * L)), .int (nI 64)], aI G (ad (18 + 3 * L)) 64 (nF (bnT L)), aJ G ou 1 ov] ++ T) sz (Ri G (fun (r_ : Int32) (u : va_W × (Nat → Int32)) => r_ = nI 0 ∧ ∃ o a : Nat, SV G (ad 9) (svP xs (o, a, st, L, stp, why)) u.1) (fun (u : va_W × (Nat → Int32)) => ([oC h ad sn hsh, oX (ad 1) 1 [.ref (ad 11), .int (nI L), .int stp, .int why], aI G (ad 11) 64 (bkD L t st), oX (ad 3) 5 [.ref (ad 12)], aI G (ad 12) 8 u.2, aI G (ad 6) 64 (splitP st L), aI G (ad 7) 64 (drpA L t (splitP st L)), aI G (ad 8) 64 (bkD L t st), aR G (ad 2) 3 (orF ad), oX (ad (15 + L)) 2 [.ref (ad (16 + 3 * L)), .ref (ad (17 + 3 * L)), .ref (ad (18 + 3 * L)), .int (nI 64)], aI G (ad (18 + 3 * L)) 64 (nF (bnT L)), aJ G ou 1 (vp_updL ov 0 ((nI (cntN (crmB L t (splitP st L)) 64)).toInt64))] ++ u.1))) := by
  refine CTW.go (by decide) (Nat.le_of_ble_eq_true rfl) (fun p e s m below meth c A ls AR QQ hx hb hr hlk hml hown hnm hts hE hA hAb hsz hP hD hS hl htab hQQ => ?_)
  have hK := hE.1
  have hown : s.vm.findClass RX0 = some m.cls := hown
  have hl : lv_has ls 4 [(0, .ref h), (1, .int t), (2, .ref ou)] := hl
  clear hsz
  refine lv_aload_n hx hb dX0_dropCrumbs_0 rfl (lv_at hl 2 rfl) ?_
  refine lv_iconst (v := nI 0) hx hb dX0_dropCrumbs_1 (by decide) ?_
  refine lv_aload_n hx hb dX0_dropCrumbs_2 rfl (lv_at hl 0 rfl) ?_
  refine lv_iload_n hx hb dX0_dropCrumbs_3 rfl (lv_at hl 1 rfl) ?_
  have hF_1 := fr_free (wc := [oC h ad sn hsh, oX (ad 1) 1 [.ref (ad 11), .int (nI L), .int stp, .int why], aI G (ad 11) 64 st, oX (ad 3) 5 [.ref (ad 12)], aI G (ad 12) 8 li, aI G (ad 6) 64 pa, aI G (ad 7) 64 ot, aI G (ad 8) 64 rm, aR G (ad 2) 3 (orF ad), oX (ad (15 + L)) 2 [.ref (ad (16 + 3 * L)), .ref (ad (17 + 3 * L)), .ref (ad (18 + 3 * L)), .int (nI 64)], aI G (ad (18 + 3 * L)) 64 (nF (bnT L))] ++ T) (isT [0, 1, 2, 3, 4, 5, 6, 7, 8, 9, 10] 12 T) (isT_C (ws := [oC h ad sn hsh, oX (ad 1) 1 [.ref (ad 11), .int (nI L), .int stp, .int why], aI G (ad 11) 64 st, oX (ad 3) 5 [.ref (ad 12)], aI G (ad 12) 8 li, aI G (ad 6) 64 pa, aI G (ad 7) 64 ot, aI G (ad 8) 64 rm, aR G (ad 2) 3 (orF ad), oX (ad (15 + L)) 2 [.ref (ad (16 + 3 * L)), .ref (ad (17 + 3 * L)), .ref (ad (18 + 3 * L)), .int (nI 64)], aI G (ad (18 + 3 * L)) 64 (nF (bnT L)), aJ G ou 1 ov]) (wc := [oC h ad sn hsh, oX (ad 1) 1 [.ref (ad 11), .int (nI L), .int stp, .int why], aI G (ad 11) 64 st, oX (ad 3) 5 [.ref (ad 12)], aI G (ad 12) 8 li, aI G (ad 6) 64 pa, aI G (ad 7) 64 ot, aI G (ad 8) 64 rm, aR G (ad 2) 3 (orF ad), oX (ad (15 + L)) 2 [.ref (ad (16 + 3 * L)), .ref (ad (17 + 3 * L)), .ref (ad (18 + 3 * L)), .int (nI 64)], aI G (ad (18 + 3 * L)) 64 (nF (bnT L))]) rfl) hA hS hD
  refine fin_iF (ws' := (fun (u_1 : va_W × (Nat → Int32)) => ([oC h ad sn hsh, oX (ad 1) 1 [.ref (ad 11), .int (nI L), .int stp, .int why], aI G (ad 11) 64 (bkD L t st), oX (ad 3) 5 [.ref (ad 12)], aI G (ad 12) 8 u_1.2, aI G (ad 6) 64 (splitP st L), aI G (ad 7) 64 (drpA L t (splitP st L)), aI G (ad 8) 64 (bkD L t st), aR G (ad 2) 3 (orF ad), oX (ad (15 + L)) 2 [.ref (ad (16 + 3 * L)), .ref (ad (17 + 3 * L)), .ref (ad (18 + 3 * L)), .int (nI 64)], aI G (ad (18 + 3 * L)) 64 (nF (bnT L)), aJ G ou 1 ov] ++ u_1.1))) hS hF_1 (run_V (As := [.int t]) (rest := [.int (nI 0), .ref ou]) (n9 := 1) hx hb hml hown hts hE hAb hl.1 hS hP hD (isT [0, 1, 2, 3, 4, 5, 6, 7, 8, 9, 10] 12 T) (isT_C (ws := [oC h ad sn hsh, oX (ad 1) 1 [.ref (ad 11), .int (nI L), .int stp, .int why], aI G (ad 11) 64 st, oX (ad 3) 5 [.ref (ad 12)], aI G (ad 12) 8 li, aI G (ad 6) 64 pa, aI G (ad 7) 64 ot, aI G (ad 8) 64 rm, aR G (ad 2) 3 (orF ad), oX (ad (15 + L)) 2 [.ref (ad (16 + 3 * L)), .ref (ad (17 + 3 * L)), .ref (ad (18 + 3 * L)), .int (nI 64)], aI G (ad (18 + 3 * L)) 64 (nF (bnT L)), aJ G ou 1 ov]) (wc := [oC h ad sn hsh, oX (ad 1) 1 [.ref (ad 11), .int (nI L), .int stp, .int why], aI G (ad 11) 64 st, oX (ad 3) 5 [.ref (ad 12)], aI G (ad 12) 8 li, aI G (ad 6) 64 pa, aI G (ad 7) 64 ot, aI G (ad 8) 64 rm, aR G (ad 2) 3 (orF ad), oX (ad (15 + L)) 2 [.ref (ad (16 + 3 * L)), .ref (ad (17 + 3 * L)), .ref (ad (18 + 3 * L)), .int (nI 64)], aI G (ad (18 + 3 * L)) 64 (nF (bnT L))]) rfl) (isT_n (by decide)) (t_X1_dropCrumbs_t l G b0 _ h ad sn hsh L stp why st li pa ot rm t xs T (by exact hL1) (by exact hL) (by exact htt) (by exact hcn) (by exact hSV)) (lw_V q1430 q1431 q1432 q106 q1433) 0 rfl rfl ⟨rfl, by decide, by decide, by decide +kernel⟩ ⟨Nat.le_of_ble_eq_true rfl, Nat.le_of_ble_eq_true rfl⟩ ⟨by first | exact Nat.le_of_ble_eq_true rfl | (simp only [rm_X0_dropCrumbs_t, rm_X1_dropCrumbs_t]; omega), by first | exact Nat.le_of_ble_eq_true rfl | (simp only [rm_X0_dropCrumbs_t, rm_X1_dropCrumbs_t]; omega)⟩ dX0_dropCrumbs_4 (Nat.le_of_ble_eq_true rfl) rfl rfl) (fun u_1 H1_ hk_ hp_ hd_ => fr_selP (w1 := [oC h ad sn hsh, oX (ad 1) 1 [.ref (ad 11), .int (nI L), .int stp, .int why], aI G (ad 11) 64 (bkD L t st), oX (ad 3) 5 [.ref (ad 12)], aI G (ad 12) 8 u_1.2, aI G (ad 6) 64 (splitP st L), aI G (ad 7) 64 (drpA L t (splitP st L)), aI G (ad 8) 64 (bkD L t st), aR G (ad 2) 3 (orF ad), oX (ad (15 + L)) 2 [.ref (ad (16 + 3 * L)), .ref (ad (17 + 3 * L)), .ref (ad (18 + 3 * L)), .int (nI 64)], aI G (ad (18 + 3 * L)) 64 (nF (bnT L))]) (ws := [oC h ad sn hsh, oX (ad 1) 1 [.ref (ad 11), .int (nI L), .int stp, .int why], aI G (ad 11) 64 st, oX (ad 3) 5 [.ref (ad 12)], aI G (ad 12) 8 li, aI G (ad 6) 64 pa, aI G (ad 7) 64 ot, aI G (ad 8) 64 rm, aR G (ad 2) 3 (orF ad), oX (ad (15 + L)) 2 [.ref (ad (16 + 3 * L)), .ref (ad (17 + 3 * L)), .ref (ad (18 + 3 * L)), .int (nI 64)], aI G (ad (18 + 3 * L)) 64 (nF (bnT L)), aJ G ou 1 ov]) (wc := [oC h ad sn hsh, oX (ad 1) 1 [.ref (ad 11), .int (nI L), .int stp, .int why], aI G (ad 11) 64 st, oX (ad 3) 5 [.ref (ad 12)], aI G (ad 12) 8 li, aI G (ad 6) 64 pa, aI G (ad 7) 64 ot, aI G (ad 8) 64 rm, aR G (ad 2) 3 (orF ad), oX (ad (15 + L)) 2 [.ref (ad (16 + 3 * L)), .ref (ad (17 + 3 * L)), .ref (ad (18 + 3 * L)), .int (nI 64)], aI G (ad (18 + 3 * L)) 64 (nF (bnT L))]) (ws' := [oC h ad sn hsh, oX (ad 1) 1 [.ref (ad 11), .int (nI L), .int stp, .int why], aI G (ad 11) 64 (bkD L t st), oX (ad 3) 5 [.ref (ad 12)], aI G (ad 12) 8 u_1.2, aI G (ad 6) 64 (splitP st L), aI G (ad 7) 64 (drpA L t (splitP st L)), aI G (ad 8) 64 (bkD L t st), aR G (ad 2) 3 (orF ad), oX (ad (15 + L)) 2 [.ref (ad (16 + 3 * L)), .ref (ad (17 + 3 * L)), .ref (ad (18 + 3 * L)), .int (nI 64)], aI G (ad (18 + 3 * L)) 64 (nF (bnT L)), aJ G ou 1 ov]) (tl := T) [0, 1, 2, 3, 4, 5, 6, 7, 8, 9, 10] [(true, 0), (true, 1), (true, 2), (true, 3), (true, 4), (true, 5), (true, 6), (true, 7), (true, 8), (true, 9), (true, 10), (false, 11)] 11 rfl rfl rfl (by decide) hP hD hk_ hF_1 hp_ hd_) (fun r_1 u_1 H locs h_1 hP hD hS => ?_)
  have hP : va_P G.1 vwCl ([oC h ad sn hsh, oX (ad 1) 1 [.ref (ad 11), .int (nI L), .int stp, .int why], aI G (ad 11) 64 (bkD L t st), oX (ad 3) 5 [.ref (ad 12)], aI G (ad 12) 8 u_1.2, aI G (ad 6) 64 (splitP st L), aI G (ad 7) 64 (drpA L t (splitP st L)), aI G (ad 8) 64 (bkD L t st), aR G (ad 2) 3 (orF ad), oX (ad (15 + L)) 2 [.ref (ad (16 + 3 * L)), .ref (ad (17 + 3 * L)), .ref (ad (18 + 3 * L)), .int (nI 64)], aI G (ad (18 + 3 * L)) 64 (nF (bnT L)), aJ G ou 1 ov] ++ u_1.1) _ := hP
  have hD : va_D A ([oC h ad sn hsh, oX (ad 1) 1 [.ref (ad 11), .int (nI L), .int stp, .int why], aI G (ad 11) 64 (bkD L t st), oX (ad 3) 5 [.ref (ad 12)], aI G (ad 12) 8 u_1.2, aI G (ad 6) 64 (splitP st L), aI G (ad 7) 64 (drpA L t (splitP st L)), aI G (ad 8) 64 (bkD L t st), aR G (ad 2) 3 (orF ad), oX (ad (15 + L)) 2 [.ref (ad (16 + 3 * L)), .ref (ad (17 + 3 * L)), .ref (ad (18 + 3 * L)), .int (nI 64)], aI G (ad (18 + 3 * L)) 64 (nF (bnT L)), aJ G ou 1 ov] ++ u_1.1) := hD
  obtain ⟨h_1, f_1⟩ := h_1
  have h_1 : r_1 = (nI (cntN (crmB L t (splitP st L)) 64)) := h_1
  try rw [h_1] at f_1
  have f_1 : ∃ o a : Nat, SV G (ad 9) (svP xs (o, a, st, L, stp, why)) u_1.1 := f_1
  rw [h_1]
  have hcf := f_1
  refine lv_i2l (v := (nI (cntN (crmB L t (splitP st L)) 64)).toInt64) hx hb dX0_dropCrumbs_7 rfl ?_
  refine N_last (ws' := ([oC h ad sn hsh, oX (ad 1) 1 [.ref (ad 11), .int (nI L), .int stp, .int why], aI G (ad 11) 64 (bkD L t st), oX (ad 3) 5 [.ref (ad 12)], aI G (ad 12) 8 u_1.2, aI G (ad 6) 64 (splitP st L), aI G (ad 7) 64 (drpA L t (splitP st L)), aI G (ad 8) 64 (bkD L t st), aR G (ad 2) 3 (orF ad), oX (ad (15 + L)) 2 [.ref (ad (16 + 3 * L)), .ref (ad (17 + 3 * L)), .ref (ad (18 + 3 * L)), .int (nI 64)], aI G (ad (18 + 3 * L)) 64 (nF (bnT L)), aJ G ou 1 (vp_updL ov 0 ((nI (cntN (crmB L t (splitP st L)) 64)).toInt64))] ++ u_1.1)) hx hb dX0_dropCrumbs_8 hK hP hD hS 11 2 rfl rfl (by omega) (by omega) rfl (fun H locs hP hD hS => ?_)
  refine lv_goto (tgt := 18) hx hb dX0_dropCrumbs_9 (by decide) ?_
  refine lv_iconst (v := nI 0) hx hb dX0_dropCrumbs_18 (by decide) ?_
  rw [hQQ]
  exact vx_ret (rt_i hx hb hr hlk  u_1 dX0_dropCrumbs_19 hP hD hS (by first | exact Nat.le_of_ble_eq_true rfl | (simp only [rm_X0_dropCrumbs_t, rm_X1_dropCrumbs_t]; omega) | omega) (by first | exact Nat.le_of_ble_eq_true rfl | (simp only [rm_X0_dropCrumbs_t, rm_X1_dropCrumbs_t]; omega) | omega) ⟨(by rfl), by exact hcf⟩)
def rm_X0_setLevels_t : Room := ({ frames := 13, cells := 4, slots := 80, locals := 441 } : Room)
set_option maxHeartbeats 400000 in
set_option maxRecDepth 100000 in
theorem t_X0_setLevels_t (l : Launch) (G : GG) (b0 sz : Nat) (h : Nat) (ad : Nat → Nat) (sn : Value) (hsh : Int64) (L : Nat) (stp why : Int32) (st : Nat → Int32) (k9 : Nat) (xs : List svR) (T : va_W) (ou : Nat) (ov : Nat → Int64) (h91 : 1 ≤ k9) (h93 : k9 ≤ 3) (hSV : SV G (ad 9) xs T) : CTW l yX0_setLevels cX0_setLevels 4 (some FieldType.int) [(0, 9, 12, 15)] (rm_X0_setLevels_t) G b0 [.ref h, .int (nI k9), .ref ou] ([oC h ad sn hsh, oX (ad 1) 1 [.ref (ad 11), .int (nI L), .int stp, .int why], aI G (ad 11) 64 st, aJ G ou 1 ov] ++ T) sz (Ri G (fun (r_ : Int32) (u : va_W) => r_ = nI 0 ∧ ∃ o a : Nat, SV G (ad 9) (svP xs (o, a, st, L, stp, why)) u) (fun (u : va_W) => ([oC h ad sn hsh, oX (ad 1) 1 [.ref (ad 11), .int (nI k9), .int stp, .int why], aI G (ad 11) 64 st, aJ G ou 1 (vp_updL ov 0 ((nI L).toInt64))] ++ u))) := by
  refine CTW.go (by decide) (Nat.le_of_ble_eq_true rfl) (fun p e s m below meth c A ls AR QQ hx hb hr hlk hml hown hnm hts hE hA hAb hsz hP hD hS hl htab hQQ => ?_)
  have hK := hE.1
  have hown : s.vm.findClass RX0 = some m.cls := hown
  have hl : lv_has ls 4 [(0, .ref h), (1, .int (nI k9)), (2, .ref ou)] := hl
  clear hsz
  refine lv_aload_n hx hb dX0_setLevels_0 rfl (lv_at hl 2 rfl) ?_
  refine lv_iconst (v := nI 0) hx hb dX0_setLevels_1 (by decide) ?_
  refine lv_aload_n hx hb dX0_setLevels_2 rfl (lv_at hl 0 rfl) ?_
  refine lv_iload_n hx hb dX0_setLevels_3 rfl (lv_at hl 1 rfl) ?_
  have hF_1 := fr_free (wc := [oC h ad sn hsh, oX (ad 1) 1 [.ref (ad 11), .int (nI L), .int stp, .int why], aI G (ad 11) 64 st] ++ T) (isT [0, 1, 2] 4 T) (isT_C (ws := [oC h ad sn hsh, oX (ad 1) 1 [.ref (ad 11), .int (nI L), .int stp, .int why], aI G (ad 11) 64 st, aJ G ou 1 ov]) (wc := [oC h ad sn hsh, oX (ad 1) 1 [.ref (ad 11), .int (nI L), .int stp, .int why], aI G (ad 11) 64 st]) rfl) hA hS hD
  refine fin_iF (ws' := (fun (u_1 : va_W) => ([oC h ad sn hsh, oX (ad 1) 1 [.ref (ad 11), .int (nI k9), .int stp, .int why], aI G (ad 11) 64 st, aJ G ou 1 ov] ++ u_1))) hS hF_1 (run_V (As := [.int (nI k9)]) (rest := [.int (nI 0), .ref ou]) (n9 := 1) hx hb hml hown hts hE hAb hl.1 hS hP hD (isT [0, 1, 2] 4 T) (isT_C (ws := [oC h ad sn hsh, oX (ad 1) 1 [.ref (ad 11), .int (nI L), .int stp, .int why], aI G (ad 11) 64 st, aJ G ou 1 ov]) (wc := [oC h ad sn hsh, oX (ad 1) 1 [.ref (ad 11), .int (nI L), .int stp, .int why], aI G (ad 11) 64 st]) rfl) (isT_n (by decide)) (t_X1_setLevels_t l G b0 _ h ad sn hsh L stp why st k9 xs T (by exact h91) (by exact h93) (by exact hSV)) (lw_V q1437 q1438 q1439 q106 q1440) 0 rfl rfl ⟨rfl, by decide, by decide, by decide +kernel⟩ ⟨Nat.le_of_ble_eq_true rfl, Nat.le_of_ble_eq_true rfl⟩ ⟨by first | exact Nat.le_of_ble_eq_true rfl | (simp only [rm_X0_setLevels_t, rm_X1_setLevels_t]; omega), by first | exact Nat.le_of_ble_eq_true rfl | (simp only [rm_X0_setLevels_t, rm_X1_setLevels_t]; omega)⟩ dX0_setLevels_4 (Nat.le_of_ble_eq_true rfl) rfl rfl) (fun u_1 H1_ hk_ hp_ hd_ => fr_selP (w1 := [oC h ad sn hsh, oX (ad 1) 1 [.ref (ad 11), .int (nI k9), .int stp, .int why], aI G (ad 11) 64 st]) (ws := [oC h ad sn hsh, oX (ad 1) 1 [.ref (ad 11), .int (nI L), .int stp, .int why], aI G (ad 11) 64 st, aJ G ou 1 ov]) (wc := [oC h ad sn hsh, oX (ad 1) 1 [.ref (ad 11), .int (nI L), .int stp, .int why], aI G (ad 11) 64 st]) (ws' := [oC h ad sn hsh, oX (ad 1) 1 [.ref (ad 11), .int (nI k9), .int stp, .int why], aI G (ad 11) 64 st, aJ G ou 1 ov]) (tl := T) [0, 1, 2] [(true, 0), (true, 1), (true, 2), (false, 3)] 3 rfl rfl rfl (by decide) hP hD hk_ hF_1 hp_ hd_) (fun r_1 u_1 H locs h_1 hP hD hS => ?_)
  have hP : va_P G.1 vwCl ([oC h ad sn hsh, oX (ad 1) 1 [.ref (ad 11), .int (nI k9), .int stp, .int why], aI G (ad 11) 64 st, aJ G ou 1 ov] ++ u_1) _ := hP
  have hD : va_D A ([oC h ad sn hsh, oX (ad 1) 1 [.ref (ad 11), .int (nI k9), .int stp, .int why], aI G (ad 11) 64 st, aJ G ou 1 ov] ++ u_1) := hD
  obtain ⟨h_1, f_1⟩ := h_1
  have h_1 : r_1 = (nI L) := h_1
  try rw [h_1] at f_1
  have f_1 : ∃ o a : Nat, SV G (ad 9) (svP xs (o, a, st, L, stp, why)) u_1 := f_1
  rw [h_1]
  have hcf := f_1
  refine lv_i2l (v := (nI L).toInt64) hx hb dX0_setLevels_7 rfl ?_
  refine N_last (ws' := ([oC h ad sn hsh, oX (ad 1) 1 [.ref (ad 11), .int (nI k9), .int stp, .int why], aI G (ad 11) 64 st, aJ G ou 1 (vp_updL ov 0 ((nI L).toInt64))] ++ u_1)) hx hb dX0_setLevels_8 hK hP hD hS 3 2 rfl rfl (by omega) (by omega) rfl (fun H locs hP hD hS => ?_)
  refine lv_goto (tgt := 15) hx hb dX0_setLevels_9 (by decide) ?_
  refine lv_iconst (v := nI 0) hx hb dX0_setLevels_15 (by decide) ?_
  rw [hQQ]
  exact vx_ret (rt_i hx hb hr hlk  u_1 dX0_setLevels_16 hP hD hS (by first | exact Nat.le_of_ble_eq_true rfl | (simp only [rm_X0_setLevels_t, rm_X1_setLevels_t]; omega) | omega) (by first | exact Nat.le_of_ble_eq_true rfl | (simp only [rm_X0_setLevels_t, rm_X1_setLevels_t]; omega) | omega) ⟨(by rfl), by exact hcf⟩)
def rm_X0_restore_t : Room := ({ frames := 13, cells := 4, slots := 80, locals := 440 } : Room)
set_option maxHeartbeats 400000 in
set_option maxRecDepth 100000 in
theorem t_X0_restore_t (l : Launch) (G : GG) (b0 sz : Nat) (h : Nat) (ad : Nat → Nat) (hsh : Int64) (L : Nat) (stp why : Int32) (st : Nat → Int32) (q qa qL : Nat) (qs qw : Int32) (qf : Nat → Int32) (xs : List svR) (T : va_W) (ou : Nat) (ov : Nat → Int64) (hSV : SV G (ad 9) xs T) : CTW l yX0_restore cX0_restore 3 (some FieldType.int) [(0, 8, 11, 20)] (rm_X0_restore_t) G b0 [.ref h, .ref ou] ([oC h ad (.ref q) hsh, oX (ad 1) 1 [.ref (ad 11), .int (nI L), .int stp, .int why], aI G (ad 11) 64 st, oX q 1 [.ref qa, .int (nI qL), .int qs, .int qw], aI G qa 64 qf, aJ G ou 1 ov] ++ T) sz (Ri G (fun (r_ : Int32) (u : va_W) => r_ = nI 0 ∧ ∃ o a : Nat, SV G (ad 9) (svP xs (o, a, st, L, stp, why)) u) (fun (u : va_W) => ([oC h ad (.ref q) hsh, oX (ad 1) 1 [.ref (ad 11), .int (nI qL), .int qs, .int qw], aI G (ad 11) 64 qf, oX q 1 [.ref qa, .int (nI qL), .int qs, .int qw], aI G qa 64 qf, aJ G ou 1 (vp_updL ov 0 ((l_sum qf 64).toInt64))] ++ u))) := by
  refine CTW.go (by decide) (Nat.le_of_ble_eq_true rfl) (fun p e s m below meth c A ls AR QQ hx hb hr hlk hml hown hnm hts hE hA hAb hsz hP hD hS hl htab hQQ => ?_)
  have hK := hE.1
  have hown : s.vm.findClass RX0 = some m.cls := hown
  have hl : lv_has ls 3 [(0, .ref h), (1, .ref ou)] := hl
  clear hsz
  refine lv_aload_n hx hb dX0_restore_0 rfl (lv_at hl 1 rfl) ?_
  refine lv_iconst (v := nI 0) hx hb dX0_restore_1 (by decide) ?_
  refine lv_aload_n hx hb dX0_restore_2 rfl (lv_at hl 0 rfl) ?_
  have hF_1 := fr_free (wc := [oC h ad (.ref q) hsh, oX (ad 1) 1 [.ref (ad 11), .int (nI L), .int stp, .int why], aI G (ad 11) 64 st, oX q 1 [.ref qa, .int (nI qL), .int qs, .int qw], aI G qa 64 qf] ++ T) (isT [0, 1, 2, 3, 4] 6 T) (isT_C (ws := [oC h ad (.ref q) hsh, oX (ad 1) 1 [.ref (ad 11), .int (nI L), .int stp, .int why], aI G (ad 11) 64 st, oX q 1 [.ref qa, .int (nI qL), .int qs, .int qw], aI G qa 64 qf, aJ G ou 1 ov]) (wc := [oC h ad (.ref q) hsh, oX (ad 1) 1 [.ref (ad 11), .int (nI L), .int stp, .int why], aI G (ad 11) 64 st, oX q 1 [.ref qa, .int (nI qL), .int qs, .int qw], aI G qa 64 qf]) rfl) hA hS hD
  refine fin_iF (ws' := (fun (u_1 : va_W) => ([oC h ad (.ref q) hsh, oX (ad 1) 1 [.ref (ad 11), .int (nI qL), .int qs, .int qw], aI G (ad 11) 64 qf, oX q 1 [.ref qa, .int (nI qL), .int qs, .int qw], aI G qa 64 qf, aJ G ou 1 ov] ++ u_1))) hS hF_1 (run_V (As := []) (rest := [.int (nI 0), .ref ou]) (n9 := 0) hx hb hml hown hts hE hAb hl.1 hS hP hD (isT [0, 1, 2, 3, 4] 6 T) (isT_C (ws := [oC h ad (.ref q) hsh, oX (ad 1) 1 [.ref (ad 11), .int (nI L), .int stp, .int why], aI G (ad 11) 64 st, oX q 1 [.ref qa, .int (nI qL), .int qs, .int qw], aI G qa 64 qf, aJ G ou 1 ov]) (wc := [oC h ad (.ref q) hsh, oX (ad 1) 1 [.ref (ad 11), .int (nI L), .int stp, .int why], aI G (ad 11) 64 st, oX q 1 [.ref qa, .int (nI qL), .int qs, .int qw], aI G qa 64 qf]) rfl) (isT_n (by decide)) (t_X1_restore_t l G b0 _ h ad hsh L stp why st q qa qL qs qw qf xs T (by exact hSV)) (lw_V q1515 q1516 q1517 q106 q1518) 0 rfl rfl ⟨rfl, by decide, by decide, by decide +kernel⟩ ⟨Nat.le_of_ble_eq_true rfl, Nat.le_of_ble_eq_true rfl⟩ ⟨by first | exact Nat.le_of_ble_eq_true rfl | (simp only [rm_X0_restore_t, rm_X1_restore_t]; omega), by first | exact Nat.le_of_ble_eq_true rfl | (simp only [rm_X0_restore_t, rm_X1_restore_t]; omega)⟩ dX0_restore_3 (Nat.le_of_ble_eq_true rfl) rfl rfl) (fun u_1 H1_ hk_ hp_ hd_ => fr_selP (w1 := [oC h ad (.ref q) hsh, oX (ad 1) 1 [.ref (ad 11), .int (nI qL), .int qs, .int qw], aI G (ad 11) 64 qf, oX q 1 [.ref qa, .int (nI qL), .int qs, .int qw], aI G qa 64 qf]) (ws := [oC h ad (.ref q) hsh, oX (ad 1) 1 [.ref (ad 11), .int (nI L), .int stp, .int why], aI G (ad 11) 64 st, oX q 1 [.ref qa, .int (nI qL), .int qs, .int qw], aI G qa 64 qf, aJ G ou 1 ov]) (wc := [oC h ad (.ref q) hsh, oX (ad 1) 1 [.ref (ad 11), .int (nI L), .int stp, .int why], aI G (ad 11) 64 st, oX q 1 [.ref qa, .int (nI qL), .int qs, .int qw], aI G qa 64 qf]) (ws' := [oC h ad (.ref q) hsh, oX (ad 1) 1 [.ref (ad 11), .int (nI qL), .int qs, .int qw], aI G (ad 11) 64 qf, oX q 1 [.ref qa, .int (nI qL), .int qs, .int qw], aI G qa 64 qf, aJ G ou 1 ov]) (tl := T) [0, 1, 2, 3, 4] [(true, 0), (true, 1), (true, 2), (true, 3), (true, 4), (false, 5)] 5 rfl rfl rfl (by decide) hP hD hk_ hF_1 hp_ hd_) (fun r_1 u_1 H locs h_1 hP hD hS => ?_)
  have hP : va_P G.1 vwCl ([oC h ad (.ref q) hsh, oX (ad 1) 1 [.ref (ad 11), .int (nI qL), .int qs, .int qw], aI G (ad 11) 64 qf, oX q 1 [.ref qa, .int (nI qL), .int qs, .int qw], aI G qa 64 qf, aJ G ou 1 ov] ++ u_1) _ := hP
  have hD : va_D A ([oC h ad (.ref q) hsh, oX (ad 1) 1 [.ref (ad 11), .int (nI qL), .int qs, .int qw], aI G (ad 11) 64 qf, oX q 1 [.ref qa, .int (nI qL), .int qs, .int qw], aI G qa 64 qf, aJ G ou 1 ov] ++ u_1) := hD
  obtain ⟨h_1, f_1⟩ := h_1
  have h_1 : r_1 = (l_sum qf 64) := h_1
  try rw [h_1] at f_1
  have f_1 : ∃ o a : Nat, SV G (ad 9) (svP xs (o, a, st, L, stp, why)) u_1 := f_1
  rw [h_1]
  have hcf := f_1
  refine lv_i2l (v := (l_sum qf 64).toInt64) hx hb dX0_restore_6 rfl ?_
  refine N_last (ws' := ([oC h ad (.ref q) hsh, oX (ad 1) 1 [.ref (ad 11), .int (nI qL), .int qs, .int qw], aI G (ad 11) 64 qf, oX q 1 [.ref qa, .int (nI qL), .int qs, .int qw], aI G qa 64 qf, aJ G ou 1 (vp_updL ov 0 ((l_sum qf 64).toInt64))] ++ u_1)) hx hb dX0_restore_7 hK hP hD hS 5 2 rfl rfl (by omega) (by omega) rfl (fun H locs hP hD hS => ?_)
  refine lv_goto (tgt := 14) hx hb dX0_restore_8 (by decide) ?_
  refine lv_iconst (v := nI 0) hx hb dX0_restore_14 (by decide) ?_
  rw [hQQ]
  exact vx_ret (rt_i hx hb hr hlk  u_1 dX0_restore_15 hP hD hS (by first | exact Nat.le_of_ble_eq_true rfl | (simp only [rm_X0_restore_t, rm_X1_restore_t]; omega) | omega) (by first | exact Nat.le_of_ble_eq_true rfl | (simp only [rm_X0_restore_t, rm_X1_restore_t]; omega) | omega) ⟨(by rfl), by exact hcf⟩)
def rm_X0_work_t : Room := ({ frames := 11, cells := 6, slots := 340, locals := 364 } : Room)
set_option maxHeartbeats 400000 in
set_option maxRecDepth 100000 in
theorem t_X0_work_t (l : Launch) (G : GG) (b0 sz : Nat) (h : Nat) (ad : Nat → Nat) (sn : Value) (hsh : Int64) (L : Nat) (stp why : Int32) (st : Nat → Int32) (li : Nat → Int32) (pa : Nat → Int32) (ot : Nat → Int32) (rm : Nat → Int32) (len : Nat) (ml : Bool) (ch : Nat → Nat) (xs : List svR) (T : va_W) (ou : Nat) (ov : Nat → Int64) (hL1 : 1 ≤ L) (hL : L ≤ 3) (hle : len ≤ 60) (hch : ∀ j, j < len → ch j ≤ 126) (hpr : (prR ch len).1 = true) (hSV : SV G (ad 9) xs T) : CTW l yX0_work cX0_work 3 (some FieldType.int) [(0, 8, 11, 15)] (rm_X0_work_t) G b0 [.ref h, .ref ou] ([oC h ad sn hsh, oX (ad 1) 1 [.ref (ad 11), .int (nI L), .int stp, .int why], aI G (ad 11) 64 st, oX (ad 3) 5 [.ref (ad 12)], aI G (ad 12) 8 li, aI G (ad 6) 64 pa, aI G (ad 7) 64 ot, aI G (ad 8) 64 rm, aR G (ad 2) 3 (orF ad), oX (ad (15 + 1)) 2 [.ref (ad (16 + 3 * 1)), .ref (ad (17 + 3 * 1)), .ref (ad (18 + 3 * 1)), .int (nI 64)], aI G (ad (18 + 3 * 1)) 64 (nF (bnT 1)), oX (ad (15 + 2)) 2 [.ref (ad (16 + 3 * 2)), .ref (ad (17 + 3 * 2)), .ref (ad (18 + 3 * 2)), .int (nI 64)], aI G (ad (18 + 3 * 2)) 64 (nF (bnT 2)), oX (ad (15 + 3)) 2 [.ref (ad (16 + 3 * 3)), .ref (ad (17 + 3 * 3)), .ref (ad (18 + 3 * 3)), .int (nI 64)], aI G (ad (18 + 3 * 3)) 64 (nF (bnT 3)), oX (ad 10) 12 [.ref (ad 28), .int (nI 0), .int (bI ml), .int (nI len)], aB G (ad 28) 60 (nF ch), aJ G ou 1 ov] ++ T) sz (Ri G (fun (r_ : Int32) (u : va_W × (Nat → Int32) × (Nat → Int32) × (Nat → Int32) × (Nat → Int32) × Bool) => r_ = nI 0 ∧ ∃ o a : Nat, SV G (ad 9) (svP xs (o, a, st, L, stp, why)) u.1) (fun (u : va_W × (Nat → Int32) × (Nat → Int32) × (Nat → Int32) × (Nat → Int32) × Bool) => ([oC h ad sn hsh, oX (ad 1) 1 [.ref (ad 11), .int (nI ((cwR ch len L st).2.2.1)), .int (if (cwR ch len L st).2.1 = 0 then (-1) else nI (cwR ch len L st).1), .int (nI (cwR ch len L st).2.1)], aI G (ad 11) 64 ((cwR ch len L st).2.2.2), oX (ad 3) 5 [.ref (ad 12)], aI G (ad 12) 8 u.2.2.1, aI G (ad 6) 64 u.2.1, aI G (ad 7) 64 u.2.2.2.1, aI G (ad 8) 64 u.2.2.2.2.1, aR G (ad 2) 3 (orF ad), oX (ad (15 + 1)) 2 [.ref (ad (16 + 3 * 1)), .ref (ad (17 + 3 * 1)), .ref (ad (18 + 3 * 1)), .int (nI 64)], aI G (ad (18 + 3 * 1)) 64 (nF (bnT 1)), oX (ad (15 + 2)) 2 [.ref (ad (16 + 3 * 2)), .ref (ad (17 + 3 * 2)), .ref (ad (18 + 3 * 2)), .int (nI 64)], aI G (ad (18 + 3 * 2)) 64 (nF (bnT 2)), oX (ad (15 + 3)) 2 [.ref (ad (16 + 3 * 3)), .ref (ad (17 + 3 * 3)), .ref (ad (18 + 3 * 3)), .int (nI 64)], aI G (ad (18 + 3 * 3)) 64 (nF (bnT 3)), oX (ad 10) 12 [.ref (ad 28), .int (nI 0), .int (bI u.2.2.2.2.2), .int (nI 0)], aB G (ad 28) 60 (nF ch), aJ G ou 1 (vp_updL ov 0 ((nI ((cwR ch len L st).1)).toInt64))] ++ u.1))) := by
  refine CTW.go (by decide) (Nat.le_of_ble_eq_true rfl) (fun p e s m below meth c A ls AR QQ hx hb hr hlk hml hown hnm hts hE hA hAb hsz hP hD hS hl htab hQQ => ?_)
  have hK := hE.1
  have hown : s.vm.findClass RX0 = some m.cls := hown
  have hl : lv_has ls 3 [(0, .ref h), (1, .ref ou)] := hl
  clear hsz
  refine lv_aload_n hx hb dX0_work_0 rfl (lv_at hl 1 rfl) ?_
  refine lv_iconst (v := nI 0) hx hb dX0_work_1 (by decide) ?_
  refine lv_aload_n hx hb dX0_work_2 rfl (lv_at hl 0 rfl) ?_
  have hF_1 := fr_free (wc := [oC h ad sn hsh, oX (ad 1) 1 [.ref (ad 11), .int (nI L), .int stp, .int why], aI G (ad 11) 64 st, oX (ad 3) 5 [.ref (ad 12)], aI G (ad 12) 8 li, aI G (ad 6) 64 pa, aI G (ad 7) 64 ot, aI G (ad 8) 64 rm, aR G (ad 2) 3 (orF ad), oX (ad (15 + 1)) 2 [.ref (ad (16 + 3 * 1)), .ref (ad (17 + 3 * 1)), .ref (ad (18 + 3 * 1)), .int (nI 64)], aI G (ad (18 + 3 * 1)) 64 (nF (bnT 1)), oX (ad (15 + 2)) 2 [.ref (ad (16 + 3 * 2)), .ref (ad (17 + 3 * 2)), .ref (ad (18 + 3 * 2)), .int (nI 64)], aI G (ad (18 + 3 * 2)) 64 (nF (bnT 2)), oX (ad (15 + 3)) 2 [.ref (ad (16 + 3 * 3)), .ref (ad (17 + 3 * 3)), .ref (ad (18 + 3 * 3)), .int (nI 64)], aI G (ad (18 + 3 * 3)) 64 (nF (bnT 3)), oX (ad 10) 12 [.ref (ad 28), .int (nI 0), .int (bI ml), .int (nI len)], aB G (ad 28) 60 (nF ch)] ++ T) (isT [0, 1, 2, 3, 4, 5, 6, 7, 8, 9, 10, 11, 12, 13, 14, 15, 16] 18 T) (isT_C (ws := [oC h ad sn hsh, oX (ad 1) 1 [.ref (ad 11), .int (nI L), .int stp, .int why], aI G (ad 11) 64 st, oX (ad 3) 5 [.ref (ad 12)], aI G (ad 12) 8 li, aI G (ad 6) 64 pa, aI G (ad 7) 64 ot, aI G (ad 8) 64 rm, aR G (ad 2) 3 (orF ad), oX (ad (15 + 1)) 2 [.ref (ad (16 + 3 * 1)), .ref (ad (17 + 3 * 1)), .ref (ad (18 + 3 * 1)), .int (nI 64)], aI G (ad (18 + 3 * 1)) 64 (nF (bnT 1)), oX (ad (15 + 2)) 2 [.ref (ad (16 + 3 * 2)), .ref (ad (17 + 3 * 2)), .ref (ad (18 + 3 * 2)), .int (nI 64)], aI G (ad (18 + 3 * 2)) 64 (nF (bnT 2)), oX (ad (15 + 3)) 2 [.ref (ad (16 + 3 * 3)), .ref (ad (17 + 3 * 3)), .ref (ad (18 + 3 * 3)), .int (nI 64)], aI G (ad (18 + 3 * 3)) 64 (nF (bnT 3)), oX (ad 10) 12 [.ref (ad 28), .int (nI 0), .int (bI ml), .int (nI len)], aB G (ad 28) 60 (nF ch), aJ G ou 1 ov]) (wc := [oC h ad sn hsh, oX (ad 1) 1 [.ref (ad 11), .int (nI L), .int stp, .int why], aI G (ad 11) 64 st, oX (ad 3) 5 [.ref (ad 12)], aI G (ad 12) 8 li, aI G (ad 6) 64 pa, aI G (ad 7) 64 ot, aI G (ad 8) 64 rm, aR G (ad 2) 3 (orF ad), oX (ad (15 + 1)) 2 [.ref (ad (16 + 3 * 1)), .ref (ad (17 + 3 * 1)), .ref (ad (18 + 3 * 1)), .int (nI 64)], aI G (ad (18 + 3 * 1)) 64 (nF (bnT 1)), oX (ad (15 + 2)) 2 [.ref (ad (16 + 3 * 2)), .ref (ad (17 + 3 * 2)), .ref (ad (18 + 3 * 2)), .int (nI 64)], aI G (ad (18 + 3 * 2)) 64 (nF (bnT 2)), oX (ad (15 + 3)) 2 [.ref (ad (16 + 3 * 3)), .ref (ad (17 + 3 * 3)), .ref (ad (18 + 3 * 3)), .int (nI 64)], aI G (ad (18 + 3 * 3)) 64 (nF (bnT 3)), oX (ad 10) 12 [.ref (ad 28), .int (nI 0), .int (bI ml), .int (nI len)], aB G (ad 28) 60 (nF ch)]) rfl) hA hS hD
  refine fin_iF (ws' := (fun (u_1 : va_W × (Nat → Int32) × (Nat → Int32) × (Nat → Int32) × (Nat → Int32) × Bool) => ([oC h ad sn hsh, oX (ad 1) 1 [.ref (ad 11), .int (nI ((cwR ch len L st).2.2.1)), .int (if (cwR ch len L st).2.1 = 0 then (-1) else nI (cwR ch len L st).1), .int (nI (cwR ch len L st).2.1)], aI G (ad 11) 64 ((cwR ch len L st).2.2.2), oX (ad 3) 5 [.ref (ad 12)], aI G (ad 12) 8 u_1.2.2.1, aI G (ad 6) 64 u_1.2.1, aI G (ad 7) 64 u_1.2.2.2.1, aI G (ad 8) 64 u_1.2.2.2.2.1, aR G (ad 2) 3 (orF ad), oX (ad (15 + 1)) 2 [.ref (ad (16 + 3 * 1)), .ref (ad (17 + 3 * 1)), .ref (ad (18 + 3 * 1)), .int (nI 64)], aI G (ad (18 + 3 * 1)) 64 (nF (bnT 1)), oX (ad (15 + 2)) 2 [.ref (ad (16 + 3 * 2)), .ref (ad (17 + 3 * 2)), .ref (ad (18 + 3 * 2)), .int (nI 64)], aI G (ad (18 + 3 * 2)) 64 (nF (bnT 2)), oX (ad (15 + 3)) 2 [.ref (ad (16 + 3 * 3)), .ref (ad (17 + 3 * 3)), .ref (ad (18 + 3 * 3)), .int (nI 64)], aI G (ad (18 + 3 * 3)) 64 (nF (bnT 3)), oX (ad 10) 12 [.ref (ad 28), .int (nI 0), .int (bI u_1.2.2.2.2.2), .int (nI 0)], aB G (ad 28) 60 (nF ch), aJ G ou 1 ov] ++ u_1.1))) hS hF_1 (run_V (As := []) (rest := [.int (nI 0), .ref ou]) (n9 := 0) hx hb hml hown hts hE hAb hl.1 hS hP hD (isT [0, 1, 2, 3, 4, 5, 6, 7, 8, 9, 10, 11, 12, 13, 14, 15, 16] 18 T) (isT_C (ws := [oC h ad sn hsh, oX (ad 1) 1 [.ref (ad 11), .int (nI L), .int stp, .int why], aI G (ad 11) 64 st, oX (ad 3) 5 [.ref (ad 12)], aI G (ad 12) 8 li, aI G (ad 6) 64 pa, aI G (ad 7) 64 ot, aI G (ad 8) 64 rm, aR G (ad 2) 3 (orF ad), oX (ad (15 + 1)) 2 [.ref (ad (16 + 3 * 1)), .ref (ad (17 + 3 * 1)), .ref (ad (18 + 3 * 1)), .int (nI 64)], aI G (ad (18 + 3 * 1)) 64 (nF (bnT 1)), oX (ad (15 + 2)) 2 [.ref (ad (16 + 3 * 2)), .ref (ad (17 + 3 * 2)), .ref (ad (18 + 3 * 2)), .int (nI 64)], aI G (ad (18 + 3 * 2)) 64 (nF (bnT 2)), oX (ad (15 + 3)) 2 [.ref (ad (16 + 3 * 3)), .ref (ad (17 + 3 * 3)), .ref (ad (18 + 3 * 3)), .int (nI 64)], aI G (ad (18 + 3 * 3)) 64 (nF (bnT 3)), oX (ad 10) 12 [.ref (ad 28), .int (nI 0), .int (bI ml), .int (nI len)], aB G (ad 28) 60 (nF ch), aJ G ou 1 ov]) (wc := [oC h ad sn hsh, oX (ad 1) 1 [.ref (ad 11), .int (nI L), .int stp, .int why], aI G (ad 11) 64 st, oX (ad 3) 5 [.ref (ad 12)], aI G (ad 12) 8 li, aI G (ad 6) 64 pa, aI G (ad 7) 64 ot, aI G (ad 8) 64 rm, aR G (ad 2) 3 (orF ad), oX (ad (15 + 1)) 2 [.ref (ad (16 + 3 * 1)), .ref (ad (17 + 3 * 1)), .ref (ad (18 + 3 * 1)), .int (nI 64)], aI G (ad (18 + 3 * 1)) 64 (nF (bnT 1)), oX (ad (15 + 2)) 2 [.ref (ad (16 + 3 * 2)), .ref (ad (17 + 3 * 2)), .ref (ad (18 + 3 * 2)), .int (nI 64)], aI G (ad (18 + 3 * 2)) 64 (nF (bnT 2)), oX (ad (15 + 3)) 2 [.ref (ad (16 + 3 * 3)), .ref (ad (17 + 3 * 3)), .ref (ad (18 + 3 * 3)), .int (nI 64)], aI G (ad (18 + 3 * 3)) 64 (nF (bnT 3)), oX (ad 10) 12 [.ref (ad 28), .int (nI 0), .int (bI ml), .int (nI len)], aB G (ad 28) 60 (nF ch)]) rfl) (isT_n (by decide)) (t_X1_work_t l G b0 _ h ad sn hsh L stp why st li pa ot rm len ml ch xs T (by exact hL1) (by exact hL) (by exact hle) (by exact hch) (by exact hpr) (by exact hSV)) (lw_V q1475 q1476 q1477 q106 q1478) 0 rfl rfl ⟨rfl, by decide, by decide, by decide +kernel⟩ ⟨Nat.le_of_ble_eq_true rfl, Nat.le_of_ble_eq_true rfl⟩ ⟨by first | exact Nat.le_of_ble_eq_true rfl | (simp only [rm_X0_work_t, rm_X1_work_t]; omega), by first | exact Nat.le_of_ble_eq_true rfl | (simp only [rm_X0_work_t, rm_X1_work_t]; omega)⟩ dX0_work_3 (Nat.le_of_ble_eq_true rfl) rfl rfl) (fun u_1 H1_ hk_ hp_ hd_ => fr_selP (w1 := [oC h ad sn hsh, oX (ad 1) 1 [.ref (ad 11), .int (nI ((cwR ch len L st).2.2.1)), .int (if (cwR ch len L st).2.1 = 0 then (-1) else nI (cwR ch len L st).1), .int (nI (cwR ch len L st).2.1)], aI G (ad 11) 64 ((cwR ch len L st).2.2.2), oX (ad 3) 5 [.ref (ad 12)], aI G (ad 12) 8 u_1.2.2.1, aI G (ad 6) 64 u_1.2.1, aI G (ad 7) 64 u_1.2.2.2.1, aI G (ad 8) 64 u_1.2.2.2.2.1, aR G (ad 2) 3 (orF ad), oX (ad (15 + 1)) 2 [.ref (ad (16 + 3 * 1)), .ref (ad (17 + 3 * 1)), .ref (ad (18 + 3 * 1)), .int (nI 64)], aI G (ad (18 + 3 * 1)) 64 (nF (bnT 1)), oX (ad (15 + 2)) 2 [.ref (ad (16 + 3 * 2)), .ref (ad (17 + 3 * 2)), .ref (ad (18 + 3 * 2)), .int (nI 64)], aI G (ad (18 + 3 * 2)) 64 (nF (bnT 2)), oX (ad (15 + 3)) 2 [.ref (ad (16 + 3 * 3)), .ref (ad (17 + 3 * 3)), .ref (ad (18 + 3 * 3)), .int (nI 64)], aI G (ad (18 + 3 * 3)) 64 (nF (bnT 3)), oX (ad 10) 12 [.ref (ad 28), .int (nI 0), .int (bI u_1.2.2.2.2.2), .int (nI 0)], aB G (ad 28) 60 (nF ch)]) (ws := [oC h ad sn hsh, oX (ad 1) 1 [.ref (ad 11), .int (nI L), .int stp, .int why], aI G (ad 11) 64 st, oX (ad 3) 5 [.ref (ad 12)], aI G (ad 12) 8 li, aI G (ad 6) 64 pa, aI G (ad 7) 64 ot, aI G (ad 8) 64 rm, aR G (ad 2) 3 (orF ad), oX (ad (15 + 1)) 2 [.ref (ad (16 + 3 * 1)), .ref (ad (17 + 3 * 1)), .ref (ad (18 + 3 * 1)), .int (nI 64)], aI G (ad (18 + 3 * 1)) 64 (nF (bnT 1)), oX (ad (15 + 2)) 2 [.ref (ad (16 + 3 * 2)), .ref (ad (17 + 3 * 2)), .ref (ad (18 + 3 * 2)), .int (nI 64)], aI G (ad (18 + 3 * 2)) 64 (nF (bnT 2)), oX (ad (15 + 3)) 2 [.ref (ad (16 + 3 * 3)), .ref (ad (17 + 3 * 3)), .ref (ad (18 + 3 * 3)), .int (nI 64)], aI G (ad (18 + 3 * 3)) 64 (nF (bnT 3)), oX (ad 10) 12 [.ref (ad 28), .int (nI 0), .int (bI ml), .int (nI len)], aB G (ad 28) 60 (nF ch), aJ G ou 1 ov]) (wc := [oC h ad sn hsh, oX (ad 1) 1 [.ref (ad 11), .int (nI L), .int stp, .int why], aI G (ad 11) 64 st, oX (ad 3) 5 [.ref (ad 12)], aI G (ad 12) 8 li, aI G (ad 6) 64 pa, aI G (ad 7) 64 ot, aI G (ad 8) 64 rm, aR G (ad 2) 3 (orF ad), oX (ad (15 + 1)) 2 [.ref (ad (16 + 3 * 1)), .ref (ad (17 + 3 * 1)), .ref (ad (18 + 3 * 1)), .int (nI 64)], aI G (ad (18 + 3 * 1)) 64 (nF (bnT 1)), oX (ad (15 + 2)) 2 [.ref (ad (16 + 3 * 2)), .ref (ad (17 + 3 * 2)), .ref (ad (18 + 3 * 2)), .int (nI 64)], aI G (ad (18 + 3 * 2)) 64 (nF (bnT 2)), oX (ad (15 + 3)) 2 [.ref (ad (16 + 3 * 3)), .ref (ad (17 + 3 * 3)), .ref (ad (18 + 3 * 3)), .int (nI 64)], aI G (ad (18 + 3 * 3)) 64 (nF (bnT 3)), oX (ad 10) 12 [.ref (ad 28), .int (nI 0), .int (bI ml), .int (nI len)], aB G (ad 28) 60 (nF ch)]) (ws' := [oC h ad sn hsh, oX (ad 1) 1 [.ref (ad 11), .int (nI ((cwR ch len L st).2.2.1)), .int (if (cwR ch len L st).2.1 = 0 then (-1) else nI (cwR ch len L st).1), .int (nI (cwR ch len L st).2.1)], aI G (ad 11) 64 ((cwR ch len L st).2.2.2), oX (ad 3) 5 [.ref (ad 12)], aI G (ad 12) 8 u_1.2.2.1, aI G (ad 6) 64 u_1.2.1, aI G (ad 7) 64 u_1.2.2.2.1, aI G (ad 8) 64 u_1.2.2.2.2.1, aR G (ad 2) 3 (orF ad), oX (ad (15 + 1)) 2 [.ref (ad (16 + 3 * 1)), .ref (ad (17 + 3 * 1)), .ref (ad (18 + 3 * 1)), .int (nI 64)], aI G (ad (18 + 3 * 1)) 64 (nF (bnT 1)), oX (ad (15 + 2)) 2 [.ref (ad (16 + 3 * 2)), .ref (ad (17 + 3 * 2)), .ref (ad (18 + 3 * 2)), .int (nI 64)], aI G (ad (18 + 3 * 2)) 64 (nF (bnT 2)), oX (ad (15 + 3)) 2 [.ref (ad (16 + 3 * 3)), .ref (ad (17 + 3 * 3)), .ref (ad (18 + 3 * 3)), .int (nI 64)], aI G (ad (18 + 3 * 3)) 64 (nF (bnT 3)), oX (ad 10) 12 [.ref (ad 28), .int (nI 0), .int (bI u_1.2.2.2.2.2), .int (nI 0)], aB G (ad 28) 60 (nF ch), aJ G ou 1 ov]) (tl := T) [0, 1, 2, 3, 4, 5, 6, 7, 8, 9, 10, 11, 12, 13, 14, 15, 16] [(true, 0), (true, 1), (true, 2), (true, 3), (true, 4), (true, 5), (true, 6), (true, 7), (true, 8), (true, 9), (true, 10), (true, 11), (true, 12), (true, 13), (true, 14), (true, 15), (true, 16), (false, 17)] 17 rfl rfl rfl (by decide) hP hD hk_ hF_1 hp_ hd_) (fun r_1 u_1 H locs h_1 hP hD hS => ?_)
  have hP : va_P G.1 vwCl ([oC h ad sn hsh, oX (ad 1) 1 [.ref (ad 11), .int (nI ((cwR ch len L st).2.2.1)), .int (if (cwR ch len L st).2.1 = 0 then (-1) else nI (cwR ch len L st).1), .int (nI (cwR ch len L st).2.1)], aI G (ad 11) 64 ((cwR ch len L st).2.2.2), oX (ad 3) 5 [.ref (ad 12)], aI G (ad 12) 8 u_1.2.2.1, aI G (ad 6) 64 u_1.2.1, aI G (ad 7) 64 u_1.2.2.2.1, aI G (ad 8) 64 u_1.2.2.2.2.1, aR G (ad 2) 3 (orF ad), oX (ad (15 + 1)) 2 [.ref (ad (16 + 3 * 1)), .ref (ad (17 + 3 * 1)), .ref (ad (18 + 3 * 1)), .int (nI 64)], aI G (ad (18 + 3 * 1)) 64 (nF (bnT 1)), oX (ad (15 + 2)) 2 [.ref (ad (16 + 3 * 2)), .ref (ad (17 + 3 * 2)), .ref (ad (18 + 3 * 2)), .int (nI 64)], aI G (ad (18 + 3 * 2)) 64 (nF (bnT 2)), oX (ad (15 + 3)) 2 [.ref (ad (16 + 3 * 3)), .ref (ad (17 + 3 * 3)), .ref (ad (18 + 3 * 3)), .int (nI 64)], aI G (ad (18 + 3 * 3)) 64 (nF (bnT 3)), oX (ad 10) 12 [.ref (ad 28), .int (nI 0), .int (bI u_1.2.2.2.2.2), .int (nI 0)], aB G (ad 28) 60 (nF ch), aJ G ou 1 ov] ++ u_1.1) _ := hP
  have hD : va_D A ([oC h ad sn hsh, oX (ad 1) 1 [.ref (ad 11), .int (nI ((cwR ch len L st).2.2.1)), .int (if (cwR ch len L st).2.1 = 0 then (-1) else nI (cwR ch len L st).1), .int (nI (cwR ch len L st).2.1)], aI G (ad 11) 64 ((cwR ch len L st).2.2.2), oX (ad 3) 5 [.ref (ad 12)], aI G (ad 12) 8 u_1.2.2.1, aI G (ad 6) 64 u_1.2.1, aI G (ad 7) 64 u_1.2.2.2.1, aI G (ad 8) 64 u_1.2.2.2.2.1, aR G (ad 2) 3 (orF ad), oX (ad (15 + 1)) 2 [.ref (ad (16 + 3 * 1)), .ref (ad (17 + 3 * 1)), .ref (ad (18 + 3 * 1)), .int (nI 64)], aI G (ad (18 + 3 * 1)) 64 (nF (bnT 1)), oX (ad (15 + 2)) 2 [.ref (ad (16 + 3 * 2)), .ref (ad (17 + 3 * 2)), .ref (ad (18 + 3 * 2)), .int (nI 64)], aI G (ad (18 + 3 * 2)) 64 (nF (bnT 2)), oX (ad (15 + 3)) 2 [.ref (ad (16 + 3 * 3)), .ref (ad (17 + 3 * 3)), .ref (ad (18 + 3 * 3)), .int (nI 64)], aI G (ad (18 + 3 * 3)) 64 (nF (bnT 3)), oX (ad 10) 12 [.ref (ad 28), .int (nI 0), .int (bI u_1.2.2.2.2.2), .int (nI 0)], aB G (ad 28) 60 (nF ch), aJ G ou 1 ov] ++ u_1.1) := hD
  obtain ⟨h_1, f_1⟩ := h_1
  have h_1 : r_1 = (nI ((cwR ch len L st).1)) := h_1
  try rw [h_1] at f_1
  have f_1 : ∃ o a : Nat, SV G (ad 9) (svP xs (o, a, st, L, stp, why)) u_1.1 := f_1
  rw [h_1]
  have hcf := f_1
  refine lv_i2l (v := (nI ((cwR ch len L st).1)).toInt64) hx hb dX0_work_6 rfl ?_
  refine N_last (ws' := ([oC h ad sn hsh, oX (ad 1) 1 [.ref (ad 11), .int (nI ((cwR ch len L st).2.2.1)), .int (if (cwR ch len L st).2.1 = 0 then (-1) else nI (cwR ch len L st).1), .int (nI (cwR ch len L st).2.1)], aI G (ad 11) 64 ((cwR ch len L st).2.2.2), oX (ad 3) 5 [.ref (ad 12)], aI G (ad 12) 8 u_1.2.2.1, aI G (ad 6) 64 u_1.2.1, aI G (ad 7) 64 u_1.2.2.2.1, aI G (ad 8) 64 u_1.2.2.2.2.1, aR G (ad 2) 3 (orF ad), oX (ad (15 + 1)) 2 [.ref (ad (16 + 3 * 1)), .ref (ad (17 + 3 * 1)), .ref (ad (18 + 3 * 1)), .int (nI 64)], aI G (ad (18 + 3 * 1)) 64 (nF (bnT 1)), oX (ad (15 + 2)) 2 [.ref (ad (16 + 3 * 2)), .ref (ad (17 + 3 * 2)), .ref (ad (18 + 3 * 2)), .int (nI 64)], aI G (ad (18 + 3 * 2)) 64 (nF (bnT 2)), oX (ad (15 + 3)) 2 [.ref (ad (16 + 3 * 3)), .ref (ad (17 + 3 * 3)), .ref (ad (18 + 3 * 3)), .int (nI 64)], aI G (ad (18 + 3 * 3)) 64 (nF (bnT 3)), oX (ad 10) 12 [.ref (ad 28), .int (nI 0), .int (bI u_1.2.2.2.2.2), .int (nI 0)], aB G (ad 28) 60 (nF ch), aJ G ou 1 (vp_updL ov 0 ((nI ((cwR ch len L st).1)).toInt64))] ++ u_1.1)) hx hb dX0_work_7 hK hP hD hS 17 2 rfl rfl (by omega) (by omega) rfl (fun H locs hP hD hS => ?_)
  refine lv_goto (tgt := 14) hx hb dX0_work_8 (by decide) ?_
  refine lv_iconst (v := nI 0) hx hb dX0_work_14 (by decide) ?_
  rw [hQQ]
  exact vx_ret (rt_i hx hb hr hlk  u_1 dX0_work_15 hP hD hS (by first | exact Nat.le_of_ble_eq_true rfl | (simp only [rm_X0_work_t, rm_X1_work_t]; omega) | omega) (by first | exact Nat.le_of_ble_eq_true rfl | (simp only [rm_X0_work_t, rm_X1_work_t]; omega) | omega) ⟨(by rfl), by exact hcf⟩)
def rm_X0_setPart_i : Room := ({ frames := 12, cells := 1, slots := 6, locals := 205 } : Room)
set_option maxHeartbeats 400000 in
set_option maxRecDepth 100000 in
theorem t_X0_setPart_i (l : Launch) (G : GG) (b0 sz : Nat) (h : Nat) (ad : Nat → Nat) (sn : Value) (hsh : Int64) (r c_ : Int32) (t : Int32) (ou : Nat) (ov : Nat → Int64) (htr : l.stackTraces = false) (hce : isCe r c_ = false) : CTW l yX0_setPart cX0_setPart 6 (some FieldType.int) [(0, 12, 15, 13), (0, 12, 19, 15), (0, 12, 23, 20)] (rm_X0_setPart_i) G b0 [.ref h, .int r, .int c_, .int t, .ref ou] [oC h ad sn hsh, aJ G ou 1 ov] sz (Ri G (fun (r_ : Int32) (_ : Unit) => r_ = nI 1) (fun (_ : Unit) => [oC h ad sn hsh, aJ G ou 1 ov])) := by
  refine CTW.go (by decide) (Nat.le_of_ble_eq_true rfl) (fun p e s m below meth c A ls AR QQ hx hb hr hlk hml hown hnm hts hE hA hAb hsz hP hD hS hl htab hQQ => ?_)
  have hK := hE.1
  have hown : s.vm.findClass RX0 = some m.cls := hown
  have hl : lv_has ls 6 [(0, .ref h), (1, .int r), (2, .int c_), (3, .int t), (4, .ref ou)] := hl
  clear hsz
  refine lv_aload hx hb dX0_setPart_0 (lv_at hl 4 rfl) ?_
  refine lv_iconst (v := nI 0) hx hb dX0_setPart_2 (by decide) ?_
  refine lv_aload_n hx hb dX0_setPart_3 rfl (lv_at hl 0 rfl) ?_
  refine lv_iload_n hx hb dX0_setPart_4 rfl (lv_at hl 1 rfl) ?_
  refine lv_iload_n hx hb dX0_setPart_5 rfl (lv_at hl 2 rfl) ?_
  refine lv_iload_n hx hb dX0_setPart_6 rfl (lv_at hl 3 rfl) ?_
  have hF_1 := fr_free (wc := [oC h ad sn hsh]) [0] rfl hA hS hD
  refine fin_x (ws' := (fun (_ : Unit) => [oC h ad sn hsh, aJ G ou 1 ov])) hS hF_1 (run_VX (As := [.int r, .int c_, .int t]) (rest := [.int (nI 0), .ref ou]) (n9 := 3) hx hb hml hown hts hE hAb hl.1 hS hP hD [0] rfl (by decide) (t_X1_setPart_i l G b0 _ h ad sn hsh r c_ t (by exact htr) (by exact hce)) (lw_V q1417 q1418 q1419 q106 q1420) 0 rfl rfl ⟨rfl, by decide, by decide, by decide +kernel⟩ ⟨Nat.le_of_ble_eq_true rfl, Nat.le_of_ble_eq_true rfl⟩ ⟨by first | exact Nat.le_of_ble_eq_true rfl | (simp only [rm_X0_setPart_i, rm_X1_setPart_i]; omega), by first | exact Nat.le_of_ble_eq_true rfl | (simp only [rm_X0_setPart_i, rm_X1_setPart_i]; omega)⟩ dX0_setPart_7 (Nat.le_of_ble_eq_true rfl) rfl rfl) (fun _ H1_ hk_ hp_ hd_ => fr_sel (ws := [oC h ad sn hsh, aJ G ou 1 ov]) (wc := [oC h ad sn hsh]) (ws' := [oC h ad sn hsh, aJ G ou 1 ov]) [0] [(true, 0), (false, 1)] rfl rfl (by decide) hP hD hk_ hF_1 hp_ hd_) (fun ce9 q9 u_1 H locs h_1 hP hD hS hce9 hcv9 hcl9 => ?_)
  have hP : va_P G.1 vwCl [oC h ad sn hsh, aJ G ou 1 ov] _ := hP
  have hD : va_D A [oC h ad sn hsh, aJ G ou 1 ov] := hD
  refine vx_catch (own := "CrumbPicturesLaw") (name := "java/lang/IndexOutOfBoundsException") hown [] ⟨0, 12, 15, 13⟩ [⟨0, 12, 19, 15⟩, ⟨0, 12, 23, 20⟩] htab (pass0) (by decide) (by decide) (hts _ q1352) (hE.nb q1112 rfl) hce9 hcv9 hcl9 ?_
  refine W.eq (g2 := F0 m 15 ls [.ref q9]) rfl ?_
  refine lv_astore (lv' := [(5, .ref q9), (0, .ref h), (1, .int r), (2, .int c_), (3, .int t), (4, .ref ou)]) hx hb dX0_setPart_15 hl (by decide) rfl (fun ls hl => ?_)
  refine lv_iconst (v := nI 1) hx hb dX0_setPart_17 (by decide) ?_
  rw [hQQ]
  exact vx_ret (rt_i hx hb hr hlk  ((())) dX0_setPart_18 hP hD hS (by first | exact Nat.le_of_ble_eq_true rfl | (simp only [rm_X0_setPart_i, rm_X1_setPart_i]; omega) | omega) (by first | exact Nat.le_of_ble_eq_true rfl | (simp only [rm_X0_setPart_i, rm_X1_setPart_i]; omega) | omega) (by rfl))
def rm_X0_part_i : Room := ({ frames := 12, cells := 1, slots := 6, locals := 204 } : Room)
set_option maxHeartbeats 400000 in
set_option maxRecDepth 100000 in
theorem t_X0_part_i (l : Launch) (G : GG) (b0 sz : Nat) (h : Nat) (ad : Nat → Nat) (sn : Value) (hsh : Int64) (r c_ : Int32) (ou : Nat) (ov : Nat → Int64) (htr : l.stackTraces = false) (hce : isCe r c_ = false) : CTW l yX0_part cX0_part 5 (some FieldType.int) [(0, 10, 13, 13)] (rm_X0_part_i) G b0 [.ref h, .int r, .int c_, .ref ou] [oC h ad sn hsh, aJ G ou 1 ov] sz (Ri G (fun (r_ : Int32) (_ : Unit) => r_ = nI 1) (fun (_ : Unit) => [oC h ad sn hsh, aJ G ou 1 ov])) := by
  refine CTW.go (by decide) (Nat.le_of_ble_eq_true rfl) (fun p e s m below meth c A ls AR QQ hx hb hr hlk hml hown hnm hts hE hA hAb hsz hP hD hS hl htab hQQ => ?_)
  have hK := hE.1
  have hown : s.vm.findClass RX0 = some m.cls := hown
  have hl : lv_has ls 5 [(0, .ref h), (1, .int r), (2, .int c_), (3, .ref ou)] := hl
  clear hsz
  refine lv_aload_n hx hb dX0_part_0 rfl (lv_at hl 3 rfl) ?_
  refine lv_iconst (v := nI 0) hx hb dX0_part_1 (by decide) ?_
  refine lv_aload_n hx hb dX0_part_2 rfl (lv_at hl 0 rfl) ?_
  refine lv_iload_n hx hb dX0_part_3 rfl (lv_at hl 1 rfl) ?_
  refine lv_iload_n hx hb dX0_part_4 rfl (lv_at hl 2 rfl) ?_
  have hF_1 := fr_free (wc := [oC h ad sn hsh]) [0] rfl hA hS hD
  refine fin_x (ws' := (fun (_ : Unit) => [oC h ad sn hsh, aJ G ou 1 ov])) hS hF_1 (run_VX (As := [.int r, .int c_]) (rest := [.int (nI 0), .ref ou]) (n9 := 2) hx hb hml hown hts hE hAb hl.1 hS hP hD [0] rfl (by decide) (t_X1_part_i l G b0 _ h ad sn hsh r c_ (by exact htr) (by exact hce)) (lw_V q1529 q1530 q1531 q106 q1532) 0 rfl rfl ⟨rfl, by decide, by decide, by decide +kernel⟩ ⟨Nat.le_of_ble_eq_true rfl, Nat.le_of_ble_eq_true rfl⟩ ⟨by first | exact Nat.le_of_ble_eq_true rfl | (simp only [rm_X0_part_i, rm_X1_part_i]; omega), by first | exact Nat.le_of_ble_eq_true rfl | (simp only [rm_X0_part_i, rm_X1_part_i]; omega)⟩ dX0_part_5 (Nat.le_of_ble_eq_true rfl) rfl rfl) (fun _ H1_ hk_ hp_ hd_ => fr_sel (ws := [oC h ad sn hsh, aJ G ou 1 ov]) (wc := [oC h ad sn hsh]) (ws' := [oC h ad sn hsh, aJ G ou 1 ov]) [0] [(true, 0), (false, 1)] rfl rfl (by decide) hP hD hk_ hF_1 hp_ hd_) (fun ce9 q9 u_1 H locs h_1 hP hD hS hce9 hcv9 hcl9 => ?_)
  have hP : va_P G.1 vwCl [oC h ad sn hsh, aJ G ou 1 ov] _ := hP
  have hD : va_D A [oC h ad sn hsh, aJ G ou 1 ov] := hD
  refine vx_catch (own := "CrumbPicturesLaw") (name := "java/lang/IndexOutOfBoundsException") hown [] ⟨0, 10, 13, 13⟩ [] htab (pass0) (by decide) (by decide) (hts _ q1352) (hE.nb q1112 rfl) hce9 hcv9 hcl9 ?_
  refine W.eq (g2 := F0 m 13 ls [.ref q9]) rfl ?_
  refine lv_astore (lv' := [(4, .ref q9), (0, .ref h), (1, .int r), (2, .int c_), (3, .ref ou)]) hx hb dX0_part_13 hl (by decide) rfl (fun ls hl => ?_)
  refine lv_iconst (v := nI 1) hx hb dX0_part_15 (by decide) ?_
  rw [hQQ]
  exact vx_ret (rt_i hx hb hr hlk  ((())) dX0_part_16 hP hD hS (by first | exact Nat.le_of_ble_eq_true rfl | (simp only [rm_X0_part_i, rm_X1_part_i]; omega) | omega) (by first | exact Nat.le_of_ble_eq_true rfl | (simp only [rm_X0_part_i, rm_X1_part_i]; omega) | omega) (by rfl))
def rm_X0_shadeBack_i : Room := ({ frames := 12, cells := 1, slots := 6, locals := 204 } : Room)
set_option maxHeartbeats 400000 in
set_option maxRecDepth 100000 in
theorem t_X0_shadeBack_i (l : Launch) (G : GG) (b0 sz : Nat) (h : Nat) (ad : Nat → Nat) (sn : Value) (hsh : Int64) (r c_ : Int32) (ou : Nat) (ov : Nat → Int64) (htr : l.stackTraces = false) (hce : isCe r c_ = false) : CTW l yX0_shadeBack cX0_shadeBack 5 (some FieldType.int) [(0, 10, 13, 13)] (rm_X0_shadeBack_i) G b0 [.ref h, .int r, .int c_, .ref ou] [oC h ad sn hsh, aJ G ou 1 ov] sz (Ri G (fun (r_ : Int32) (_ : Unit) => r_ = nI 1) (fun (_ : Unit) => [oC h ad sn hsh, aJ G ou 1 ov])) := by
  refine CTW.go (by decide) (Nat.le_of_ble_eq_true rfl) (fun p e s m below meth c A ls AR QQ hx hb hr hlk hml hown hnm hts hE hA hAb hsz hP hD hS hl htab hQQ => ?_)
  have hK := hE.1
  have hown : s.vm.findClass RX0 = some m.cls := hown
  have hl : lv_has ls 5 [(0, .ref h), (1, .int r), (2, .int c_), (3, .ref ou)] := hl
  clear hsz
  refine lv_aload_n hx hb dX0_shadeBack_0 rfl (lv_at hl 3 rfl) ?_
  refine lv_iconst (v := nI 0) hx hb dX0_shadeBack_1 (by decide) ?_
  refine lv_aload_n hx hb dX0_shadeBack_2 rfl (lv_at hl 0 rfl) ?_
  refine lv_iload_n hx hb dX0_shadeBack_3 rfl (lv_at hl 1 rfl) ?_
  refine lv_iload_n hx hb dX0_shadeBack_4 rfl (lv_at hl 2 rfl) ?_
  have hF_1 := fr_free (wc := [oC h ad sn hsh]) [0] rfl hA hS hD
  refine fin_x (ws' := (fun (_ : Unit) => [oC h ad sn hsh, aJ G ou 1 ov])) hS hF_1 (run_VX (As := [.int r, .int c_]) (rest := [.int (nI 0), .ref ou]) (n9 := 2) hx hb hml hown hts hE hAb hl.1 hS hP hD [0] rfl (by decide) (t_X1_shadeBack_i l G b0 _ h ad sn hsh r c_ (by exact htr) (by exact hce)) (lw_V q1557 q1558 q1559 q106 q1560) 0 rfl rfl ⟨rfl, by decide, by decide, by decide +kernel⟩ ⟨Nat.le_of_ble_eq_true rfl, Nat.le_of_ble_eq_true rfl⟩ ⟨by first | exact Nat.le_of_ble_eq_true rfl | (simp only [rm_X0_shadeBack_i, rm_X1_shadeBack_i]; omega), by first | exact Nat.le_of_ble_eq_true rfl | (simp only [rm_X0_shadeBack_i, rm_X1_shadeBack_i]; omega)⟩ dX0_shadeBack_5 (Nat.le_of_ble_eq_true rfl) rfl rfl) (fun _ H1_ hk_ hp_ hd_ => fr_sel (ws := [oC h ad sn hsh, aJ G ou 1 ov]) (wc := [oC h ad sn hsh]) (ws' := [oC h ad sn hsh, aJ G ou 1 ov]) [0] [(true, 0), (false, 1)] rfl rfl (by decide) hP hD hk_ hF_1 hp_ hd_) (fun ce9 q9 u_1 H locs h_1 hP hD hS hce9 hcv9 hcl9 => ?_)
  have hP : va_P G.1 vwCl [oC h ad sn hsh, aJ G ou 1 ov] _ := hP
  have hD : va_D A [oC h ad sn hsh, aJ G ou 1 ov] := hD
  refine vx_catch (own := "CrumbPicturesLaw") (name := "java/lang/IndexOutOfBoundsException") hown [] ⟨0, 10, 13, 13⟩ [] htab (pass0) (by decide) (by decide) (hts _ q1352) (hE.nb q1112 rfl) hce9 hcv9 hcl9 ?_
  refine W.eq (g2 := F0 m 13 ls [.ref q9]) rfl ?_
  refine lv_astore (lv' := [(4, .ref q9), (0, .ref h), (1, .int r), (2, .int c_), (3, .ref ou)]) hx hb dX0_shadeBack_13 hl (by decide) rfl (fun ls hl => ?_)
  refine lv_iconst (v := nI 1) hx hb dX0_shadeBack_15 (by decide) ?_
  rw [hQQ]
  exact vx_ret (rt_i hx hb hr hlk  ((())) dX0_shadeBack_16 hP hD hS (by first | exact Nat.le_of_ble_eq_true rfl | (simp only [rm_X0_shadeBack_i, rm_X1_shadeBack_i]; omega) | omega) (by first | exact Nat.le_of_ble_eq_true rfl | (simp only [rm_X0_shadeBack_i, rm_X1_shadeBack_i]; omega) | omega) (by rfl))
def rm_X0_shadeByParts_i : Room := ({ frames := 12, cells := 1, slots := 6, locals := 203 } : Room)
set_option maxHeartbeats 400000 in
set_option maxRecDepth 100000 in
theorem t_X0_shadeByParts_i (l : Launch) (G : GG) (b0 sz : Nat) (h : Nat) (ad : Nat → Nat) (sn : Value) (hsh : Int64) (r c_ : Int32) (ou : Nat) (ov : Nat → Int64) (htr : l.stackTraces = false) (hce : isCe r c_ = false) : CTW l yX0_shadeByParts cX0_shadeByParts 5 (some FieldType.int) [(0, 10, 13, 13)] (rm_X0_shadeByParts_i) G b0 [.ref h, .int r, .int c_, .ref ou] [oC h ad sn hsh, aJ G ou 1 ov] sz (Ri G (fun (r_ : Int32) (_ : Unit) => r_ = nI 1) (fun (_ : Unit) => [oC h ad sn hsh, aJ G ou 1 ov])) := by
  refine CTW.go (by decide) (Nat.le_of_ble_eq_true rfl) (fun p e s m below meth c A ls AR QQ hx hb hr hlk hml hown hnm hts hE hA hAb hsz hP hD hS hl htab hQQ => ?_)
  have hK := hE.1
  have hown : s.vm.findClass RX0 = some m.cls := hown
  have hl : lv_has ls 5 [(0, .ref h), (1, .int r), (2, .int c_), (3, .ref ou)] := hl
  clear hsz
  refine lv_aload_n hx hb dX0_shadeByParts_0 rfl (lv_at hl 3 rfl) ?_
  refine lv_iconst (v := nI 0) hx hb dX0_shadeByParts_1 (by decide) ?_
  refine lv_aload_n hx hb dX0_shadeByParts_2 rfl (lv_at hl 0 rfl) ?_
  refine lv_iload_n hx hb dX0_shadeByParts_3 rfl (lv_at hl 1 rfl) ?_
  refine lv_iload_n hx hb dX0_shadeByParts_4 rfl (lv_at hl 2 rfl) ?_
  have hF_1 := fr_free (wc := [oC h ad sn hsh]) [0] rfl hA hS hD
  refine fin_x (ws' := (fun (_ : Unit) => [oC h ad sn hsh, aJ G ou 1 ov])) hS hF_1 (run_VX (As := [.int r, .int c_]) (rest := [.int (nI 0), .ref ou]) (n9 := 2) hx hb hml hown hts hE hAb hl.1 hS hP hD [0] rfl (by decide) (t_X1_shadeByParts_i l G b0 _ h ad sn hsh r c_ (by exact htr) (by exact hce)) (lw_V q1564 q1565 q1566 q106 q1567) 0 rfl rfl ⟨rfl, by decide, by decide, by decide +kernel⟩ ⟨Nat.le_of_ble_eq_true rfl, Nat.le_of_ble_eq_true rfl⟩ ⟨by first | exact Nat.le_of_ble_eq_true rfl | (simp only [rm_X0_shadeByParts_i, rm_X1_shadeByParts_i]; omega), by first | exact Nat.le_of_ble_eq_true rfl | (simp only [rm_X0_shadeByParts_i, rm_X1_shadeByParts_i]; omega)⟩ dX0_shadeByParts_5 (Nat.le_of_ble_eq_true rfl) rfl rfl) (fun _ H1_ hk_ hp_ hd_ => fr_sel (ws := [oC h ad sn hsh, aJ G ou 1 ov]) (wc := [oC h ad sn hsh]) (ws' := [oC h ad sn hsh, aJ G ou 1 ov]) [0] [(true, 0), (false, 1)] rfl rfl (by decide) hP hD hk_ hF_1 hp_ hd_) (fun ce9 q9 u_1 H locs h_1 hP hD hS hce9 hcv9 hcl9 => ?_)
  have hP : va_P G.1 vwCl [oC h ad sn hsh, aJ G ou 1 ov] _ := hP
  have hD : va_D A [oC h ad sn hsh, aJ G ou 1 ov] := hD
  refine vx_catch (own := "CrumbPicturesLaw") (name := "java/lang/IndexOutOfBoundsException") hown [] ⟨0, 10, 13, 13⟩ [] htab (pass0) (by decide) (by decide) (hts _ q1352) (hE.nb q1112 rfl) hce9 hcv9 hcl9 ?_
  refine W.eq (g2 := F0 m 13 ls [.ref q9]) rfl ?_
  refine lv_astore (lv' := [(4, .ref q9), (0, .ref h), (1, .int r), (2, .int c_), (3, .ref ou)]) hx hb dX0_shadeByParts_13 hl (by decide) rfl (fun ls hl => ?_)
  refine lv_iconst (v := nI 1) hx hb dX0_shadeByParts_15 (by decide) ?_
  rw [hQQ]
  exact vx_ret (rt_i hx hb hr hlk  ((())) dX0_shadeByParts_16 hP hD hS (by first | exact Nat.le_of_ble_eq_true rfl | (simp only [rm_X0_shadeByParts_i, rm_X1_shadeByParts_i]; omega) | omega) (by first | exact Nat.le_of_ble_eq_true rfl | (simp only [rm_X0_shadeByParts_i, rm_X1_shadeByParts_i]; omega) | omega) (by rfl))
def rm_X0_setShade_i : Room := ({ frames := 12, cells := 1, slots := 6, locals := 205 } : Room)
set_option maxHeartbeats 400000 in
set_option maxRecDepth 100000 in
theorem t_X0_setShade_i (l : Launch) (G : GG) (b0 sz : Nat) (h : Nat) (ad : Nat → Nat) (sn : Value) (hsh : Int64) (r c_ : Int32) (t : Int32) (ou : Nat) (ov : Nat → Int64) (htr : l.stackTraces = false) (hce : isCe r c_ = false) : CTW l yX0_setShade cX0_setShade 6 (some FieldType.int) [(0, 12, 15, 13), (0, 12, 19, 15)] (rm_X0_setShade_i) G b0 [.ref h, .int r, .int c_, .int t, .ref ou] [oC h ad sn hsh, aJ G ou 1 ov] sz (Ri G (fun (r_ : Int32) (_ : Unit) => r_ = nI 1) (fun (_ : Unit) => [oC h ad sn hsh, aJ G ou 1 ov])) := by
  refine CTW.go (by decide) (Nat.le_of_ble_eq_true rfl) (fun p e s m below meth c A ls AR QQ hx hb hr hlk hml hown hnm hts hE hA hAb hsz hP hD hS hl htab hQQ => ?_)
  have hK := hE.1
  have hown : s.vm.findClass RX0 = some m.cls := hown
  have hl : lv_has ls 6 [(0, .ref h), (1, .int r), (2, .int c_), (3, .int t), (4, .ref ou)] := hl
  clear hsz
  refine lv_aload hx hb dX0_setShade_0 (lv_at hl 4 rfl) ?_
  refine lv_iconst (v := nI 0) hx hb dX0_setShade_2 (by decide) ?_
  refine lv_aload_n hx hb dX0_setShade_3 rfl (lv_at hl 0 rfl) ?_
  refine lv_iload_n hx hb dX0_setShade_4 rfl (lv_at hl 1 rfl) ?_
  refine lv_iload_n hx hb dX0_setShade_5 rfl (lv_at hl 2 rfl) ?_
  refine lv_iload_n hx hb dX0_setShade_6 rfl (lv_at hl 3 rfl) ?_
  have hF_1 := fr_free (wc := [oC h ad sn hsh]) [0] rfl hA hS hD
  refine fin_x (ws' := (fun (_ : Unit) => [oC h ad sn hsh, aJ G ou 1 ov])) hS hF_1 (run_VX (As := [.int r, .int c_, .int t]) (rest := [.int (nI 0), .ref ou]) (n9 := 3) hx hb hml hown hts hE hAb hl.1 hS hP hD [0] rfl (by decide) (t_X1_setShade_i l G b0 _ h ad sn hsh r c_ t (by exact htr) (by exact hce)) (lw_V q1356 q1357 q1358 q106 q1359) 0 rfl rfl ⟨rfl, by decide, by decide, by decide +kernel⟩ ⟨Nat.le_of_ble_eq_true rfl, Nat.le_of_ble_eq_true rfl⟩ ⟨by first | exact Nat.le_of_ble_eq_true rfl | (simp only [rm_X0_setShade_i, rm_X1_setShade_i]; omega), by first | exact Nat.le_of_ble_eq_true rfl | (simp only [rm_X0_setShade_i, rm_X1_setShade_i]; omega)⟩ dX0_setShade_7 (Nat.le_of_ble_eq_true rfl) rfl rfl) (fun _ H1_ hk_ hp_ hd_ => fr_sel (ws := [oC h ad sn hsh, aJ G ou 1 ov]) (wc := [oC h ad sn hsh]) (ws' := [oC h ad sn hsh, aJ G ou 1 ov]) [0] [(true, 0), (false, 1)] rfl rfl (by decide) hP hD hk_ hF_1 hp_ hd_) (fun ce9 q9 u_1 H locs h_1 hP hD hS hce9 hcv9 hcl9 => ?_)
  have hP : va_P G.1 vwCl [oC h ad sn hsh, aJ G ou 1 ov] _ := hP
  have hD : va_D A [oC h ad sn hsh, aJ G ou 1 ov] := hD
  refine vx_catch (own := "CrumbPicturesLaw") (name := "java/lang/IndexOutOfBoundsException") hown [] ⟨0, 12, 15, 13⟩ [⟨0, 12, 19, 15⟩] htab (pass0) (by decide) (by decide) (hts _ q1352) (hE.nb q1112 rfl) hce9 hcv9 hcl9 ?_
  refine W.eq (g2 := F0 m 15 ls [.ref q9]) rfl ?_
  refine lv_astore (lv' := [(5, .ref q9), (0, .ref h), (1, .int r), (2, .int c_), (3, .int t), (4, .ref ou)]) hx hb dX0_setShade_15 hl (by decide) rfl (fun ls hl => ?_)
  refine lv_iconst (v := nI 1) hx hb dX0_setShade_17 (by decide) ?_
  rw [hQQ]
  exact vx_ret (rt_i hx hb hr hlk  ((())) dX0_setShade_18 hP hD hS (by first | exact Nat.le_of_ble_eq_true rfl | (simp only [rm_X0_setShade_i, rm_X1_setShade_i]; omega) | omega) (by first | exact Nat.le_of_ble_eq_true rfl | (simp only [rm_X0_setShade_i, rm_X1_setShade_i]; omega) | omega) (by rfl))
def rm_X0_setShade_a : Room := ({ frames := 12, cells := 1, slots := 6, locals := 204 } : Room)
set_option maxHeartbeats 400000 in
set_option maxRecDepth 100000 in
theorem t_X0_setShade_a (l : Launch) (G : GG) (b0 sz : Nat) (h : Nat) (ad : Nat → Nat) (sn : Value) (hsh : Int64) (r c_ : Nat) (t : Int32) (ou : Nat) (ov : Nat → Int64) (htr : l.stackTraces = false) (hr_ : r < 8) (hc_ : c_ < 8) (htt : isSh t = false) : CTW l yX0_setShade cX0_setShade 6 (some FieldType.int) [(0, 12, 15, 13), (0, 12, 19, 15)] (rm_X0_setShade_a) G b0 [.ref h, .int (nI r), .int (nI c_), .int t, .ref ou] [oC h ad sn hsh, aJ G ou 1 ov] sz (Ri G (fun (r_ : Int32) (_ : Unit) => r_ = nI 2) (fun (_ : Unit) => [oC h ad sn hsh, aJ G ou 1 ov])) := by
  refine CTW.go (by decide) (Nat.le_of_ble_eq_true rfl) (fun p e s m below meth c A ls AR QQ hx hb hr hlk hml hown hnm hts hE hA hAb hsz hP hD hS hl htab hQQ => ?_)
  have hK := hE.1
  have hown : s.vm.findClass RX0 = some m.cls := hown
  have hl : lv_has ls 6 [(0, .ref h), (1, .int (nI r)), (2, .int (nI c_)), (3, .int t), (4, .ref ou)] := hl
  clear hsz
  refine lv_aload hx hb dX0_setShade_0 (lv_at hl 4 rfl) ?_
  refine lv_iconst (v := nI 0) hx hb dX0_setShade_2 (by decide) ?_
  refine lv_aload_n hx hb dX0_setShade_3 rfl (lv_at hl 0 rfl) ?_
  refine lv_iload_n hx hb dX0_setShade_4 rfl (lv_at hl 1 rfl) ?_
  refine lv_iload_n hx hb dX0_setShade_5 rfl (lv_at hl 2 rfl) ?_
  refine lv_iload_n hx hb dX0_setShade_6 rfl (lv_at hl 3 rfl) ?_
  have hF_1 := fr_free (wc := [oC h ad sn hsh]) [0] rfl hA hS hD
  refine fin_x (ws' := (fun (_ : Unit) => [oC h ad sn hsh, aJ G ou 1 ov])) hS hF_1 (run_VX (As := [.int (nI r), .int (nI c_), .int t]) (rest := [.int (nI 0), .ref ou]) (n9 := 3) hx hb hml hown hts hE hAb hl.1 hS hP hD [0] rfl (by decide) (t_X1_setShade_a l G b0 _ h ad sn hsh r c_ t (by exact htr) (by exact hr_) (by exact hc_) (by exact htt)) (lw_V q1356 q1357 q1358 q106 q1359) 0 rfl rfl ⟨rfl, by decide, by decide, by decide +kernel⟩ ⟨Nat.le_of_ble_eq_true rfl, Nat.le_of_ble_eq_true rfl⟩ ⟨by first | exact Nat.le_of_ble_eq_true rfl | (simp only [rm_X0_setShade_a, rm_X1_setShade_a]; omega), by first | exact Nat.le_of_ble_eq_true rfl | (simp only [rm_X0_setShade_a, rm_X1_setShade_a]; omega)⟩ dX0_setShade_7 (Nat.le_of_ble_eq_true rfl) rfl rfl) (fun _ H1_ hk_ hp_ hd_ => fr_sel (ws := [oC h ad sn hsh, aJ G ou 1 ov]) (wc := [oC h ad sn hsh]) (ws' := [oC h ad sn hsh, aJ G ou 1 ov]) [0] [(true, 0), (false, 1)] rfl rfl (by decide) hP hD hk_ hF_1 hp_ hd_) (fun ce9 q9 u_1 H locs h_1 hP hD hS hce9 hcv9 hcl9 => ?_)
  have hP : va_P G.1 vwCl [oC h ad sn hsh, aJ G ou 1 ov] _ := hP
  have hD : va_D A [oC h ad sn hsh, aJ G ou 1 ov] := hD
  refine vx_catch (own := "CrumbPicturesLaw") (name := "java/lang/IllegalArgumentException") hown [⟨0, 12, 15, 13⟩] ⟨0, 12, 19, 15⟩ [] htab (pass1 (Or.inr ⟨by decide, _, hts _ q1352, hE.2.2.2.2.2.1.1⟩)) (by decide) (by decide) (hts _ q1355) (hE.nb q849 rfl) hce9 hcv9 hcl9 ?_
  refine W.eq (g2 := F0 m 19 ls [.ref q9]) rfl ?_
  refine lv_astore (lv' := [(5, .ref q9), (0, .ref h), (1, .int (nI r)), (2, .int (nI c_)), (3, .int t), (4, .ref ou)]) hx hb dX0_setShade_19 hl (by decide) rfl (fun ls hl => ?_)
  refine lv_iconst (v := nI 2) hx hb dX0_setShade_21 (by decide) ?_
  rw [hQQ]
  exact vx_ret (rt_i hx hb hr hlk  ((())) dX0_setShade_22 hP hD hS (by first | exact Nat.le_of_ble_eq_true rfl | (simp only [rm_X0_setShade_a, rm_X1_setShade_a]; omega) | omega) (by first | exact Nat.le_of_ble_eq_true rfl | (simp only [rm_X0_setShade_a, rm_X1_setShade_a]; omega) | omega) (by rfl))
def rm_X0_isTree_i : Room := ({ frames := 12, cells := 1, slots := 6, locals := 206 } : Room)
set_option maxHeartbeats 400000 in
set_option maxRecDepth 100000 in
theorem t_X0_isTree_i (l : Launch) (G : GG) (b0 sz : Nat) (h : Nat) (ad : Nat → Nat) (sn : Value) (hsh : Int64) (r c_ : Int32) (t : Int32) (ou : Nat) (ov : Nat → Int64) (htr : l.stackTraces = false) (hce : isCe r c_ = false) : CTW l yX0_isTree cX0_isTree 6 (some FieldType.int) [(0, 19, 22, 13), (0, 19, 26, 15)] (rm_X0_isTree_i) G b0 [.ref h, .int r, .int c_, .int t, .ref ou] [oC h ad sn hsh, aJ G ou 1 ov] sz (Ri G (fun (r_ : Int32) (_ : Unit) => r_ = nI 1) (fun (_ : Unit) => [oC h ad sn hsh, aJ G ou 1 ov])) := by
  refine CTW.go (by decide) (Nat.le_of_ble_eq_true rfl) (fun p e s m below meth c A ls AR QQ hx hb hr hlk hml hown hnm hts hE hA hAb hsz hP hD hS hl htab hQQ => ?_)
  have hK := hE.1
  have hown : s.vm.findClass RX0 = some m.cls := hown
  have hl : lv_has ls 6 [(0, .ref h), (1, .int r), (2, .int c_), (3, .int t), (4, .ref ou)] := hl
  clear hsz
  refine lv_aload hx hb dX0_isTree_0 (lv_at hl 4 rfl) ?_
  refine lv_iconst (v := nI 0) hx hb dX0_isTree_2 (by decide) ?_
  refine lv_aload_n hx hb dX0_isTree_3 rfl (lv_at hl 0 rfl) ?_
  refine lv_iload_n hx hb dX0_isTree_4 rfl (lv_at hl 1 rfl) ?_
  refine lv_iload_n hx hb dX0_isTree_5 rfl (lv_at hl 2 rfl) ?_
  refine lv_iload_n hx hb dX0_isTree_6 rfl (lv_at hl 3 rfl) ?_
  have hF_1 := fr_free (wc := [oC h ad sn hsh]) [0] rfl hA hS hD
  refine fin_x (ws' := (fun (_ : Unit) => [oC h ad sn hsh, aJ G ou 1 ov])) hS hF_1 (run_VX (As := [.int r, .int c_, .int t]) (rest := [.int (nI 0), .ref ou]) (n9 := 3) hx hb hml hown hts hE hAb hl.1 hS hP hD [0] rfl (by decide) (t_X1_isTree_i l G b0 _ h ad sn hsh r c_ t (by exact htr) (by exact hce)) (lw_V q1620 q1621 q1622 q106 q1623) 0 rfl rfl ⟨rfl, by decide, by decide, by decide +kernel⟩ ⟨Nat.le_of_ble_eq_true rfl, Nat.le_of_ble_eq_true rfl⟩ ⟨by first | exact Nat.le_of_ble_eq_true rfl | (simp only [rm_X0_isTree_i, rm_X1_isTree_i]; omega), by first | exact Nat.le_of_ble_eq_true rfl | (simp only [rm_X0_isTree_i, rm_X1_isTree_i]; omega)⟩ dX0_isTree_7 (Nat.le_of_ble_eq_true rfl) rfl rfl) (fun _ H1_ hk_ hp_ hd_ => fr_sel (ws := [oC h ad sn hsh, aJ G ou 1 ov]) (wc := [oC h ad sn hsh]) (ws' := [oC h ad sn hsh, aJ G ou 1 ov]) [0] [(true, 0), (false, 1)] rfl rfl (by decide) hP hD hk_ hF_1 hp_ hd_) (fun ce9 q9 u_1 H locs h_1 hP hD hS hce9 hcv9 hcl9 => ?_)
  have hP : va_P G.1 vwCl [oC h ad sn hsh, aJ G ou 1 ov] _ := hP
  have hD : va_D A [oC h ad sn hsh, aJ G ou 1 ov] := hD
  refine vx_catch (own := "CrumbPicturesLaw") (name := "java/lang/IndexOutOfBoundsException") hown [] ⟨0, 19, 22, 13⟩ [⟨0, 19, 26, 15⟩] htab (pass0) (by decide) (by decide) (hts _ q1352) (hE.nb q1112 rfl) hce9 hcv9 hcl9 ?_
  refine W.eq (g2 := F0 m 22 ls [.ref q9]) rfl ?_
  refine lv_astore (lv' := [(5, .ref q9), (0, .ref h), (1, .int r), (2, .int c_), (3, .int t), (4, .ref ou)]) hx hb dX0_isTree_22 hl (by decide) rfl (fun ls hl => ?_)
  refine lv_iconst (v := nI 1) hx hb dX0_isTree_24 (by decide) ?_
  rw [hQQ]
  exact vx_ret (rt_i hx hb hr hlk  ((())) dX0_isTree_25 hP hD hS (by first | exact Nat.le_of_ble_eq_true rfl | (simp only [rm_X0_isTree_i, rm_X1_isTree_i]; omega) | omega) (by first | exact Nat.le_of_ble_eq_true rfl | (simp only [rm_X0_isTree_i, rm_X1_isTree_i]; omega) | omega) (by rfl))
def rm_X0_isTree_a : Room := ({ frames := 12, cells := 1, slots := 6, locals := 205 } : Room)
set_option maxHeartbeats 400000 in
set_option maxRecDepth 100000 in
theorem t_X0_isTree_a (l : Launch) (G : GG) (b0 sz : Nat) (h : Nat) (ad : Nat → Nat) (sn : Value) (hsh : Int64) (r c_ : Nat) (t : Int32) (ou : Nat) (ov : Nat → Int64) (htr : l.stackTraces = false) (hr_ : r < 8) (hc_ : c_ < 8) (htt : isSh t = false) : CTW l yX0_isTree cX0_isTree 6 (some FieldType.int) [(0, 19, 22, 13), (0, 19, 26, 15)] (rm_X0_isTree_a) G b0 [.ref h, .int (nI r), .int (nI c_), .int t, .ref ou] [oC h ad sn hsh, aJ G ou 1 ov] sz (Ri G (fun (r_ : Int32) (_ : Unit) => r_ = nI 2) (fun (_ : Unit) => [oC h ad sn hsh, aJ G ou 1 ov])) := by
  refine CTW.go (by decide) (Nat.le_of_ble_eq_true rfl) (fun p e s m below meth c A ls AR QQ hx hb hr hlk hml hown hnm hts hE hA hAb hsz hP hD hS hl htab hQQ => ?_)
  have hK := hE.1
  have hown : s.vm.findClass RX0 = some m.cls := hown
  have hl : lv_has ls 6 [(0, .ref h), (1, .int (nI r)), (2, .int (nI c_)), (3, .int t), (4, .ref ou)] := hl
  clear hsz
  refine lv_aload hx hb dX0_isTree_0 (lv_at hl 4 rfl) ?_
  refine lv_iconst (v := nI 0) hx hb dX0_isTree_2 (by decide) ?_
  refine lv_aload_n hx hb dX0_isTree_3 rfl (lv_at hl 0 rfl) ?_
  refine lv_iload_n hx hb dX0_isTree_4 rfl (lv_at hl 1 rfl) ?_
  refine lv_iload_n hx hb dX0_isTree_5 rfl (lv_at hl 2 rfl) ?_
  refine lv_iload_n hx hb dX0_isTree_6 rfl (lv_at hl 3 rfl) ?_
  have hF_1 := fr_free (wc := [oC h ad sn hsh]) [0] rfl hA hS hD
  refine fin_x (ws' := (fun (_ : Unit) => [oC h ad sn hsh, aJ G ou 1 ov])) hS hF_1 (run_VX (As := [.int (nI r), .int (nI c_), .int t]) (rest := [.int (nI 0), .ref ou]) (n9 := 3) hx hb hml hown hts hE hAb hl.1 hS hP hD [0] rfl (by decide) (t_X1_isTree_a l G b0 _ h ad sn hsh r c_ t (by exact htr) (by exact hr_) (by exact hc_) (by exact htt)) (lw_V q1620 q1621 q1622 q106 q1623) 0 rfl rfl ⟨rfl, by decide, by decide, by decide +kernel⟩ ⟨Nat.le_of_ble_eq_true rfl, Nat.le_of_ble_eq_true rfl⟩ ⟨by first | exact Nat.le_of_ble_eq_true rfl | (simp only [rm_X0_isTree_a, rm_X1_isTree_a]; omega), by first | exact Nat.le_of_ble_eq_true rfl | (simp only [rm_X0_isTree_a, rm_X1_isTree_a]; omega)⟩ dX0_isTree_7 (Nat.le_of_ble_eq_true rfl) rfl rfl) (fun _ H1_ hk_ hp_ hd_ => fr_sel (ws := [oC h ad sn hsh, aJ G ou 1 ov]) (wc := [oC h ad sn hsh]) (ws' := [oC h ad sn hsh, aJ G ou 1 ov]) [0] [(true, 0), (false, 1)] rfl rfl (by decide) hP hD hk_ hF_1 hp_ hd_) (fun ce9 q9 u_1 H locs h_1 hP hD hS hce9 hcv9 hcl9 => ?_)
  have hP : va_P G.1 vwCl [oC h ad sn hsh, aJ G ou 1 ov] _ := hP
  have hD : va_D A [oC h ad sn hsh, aJ G ou 1 ov] := hD
  refine vx_catch (own := "CrumbPicturesLaw") (name := "java/lang/IllegalArgumentException") hown [⟨0, 19, 22, 13⟩] ⟨0, 19, 26, 15⟩ [] htab (pass1 (Or.inr ⟨by decide, _, hts _ q1352, hE.2.2.2.2.2.1.1⟩)) (by decide) (by decide) (hts _ q1355) (hE.nb q849 rfl) hce9 hcv9 hcl9 ?_
  refine W.eq (g2 := F0 m 26 ls [.ref q9]) rfl ?_
  refine lv_astore (lv' := [(5, .ref q9), (0, .ref h), (1, .int (nI r)), (2, .int (nI c_)), (3, .int t), (4, .ref ou)]) hx hb dX0_isTree_26 hl (by decide) rfl (fun ls hl => ?_)
  refine lv_iconst (v := nI 2) hx hb dX0_isTree_28 (by decide) ?_
  rw [hQQ]
  exact vx_ret (rt_i hx hb hr hlk  ((())) dX0_isTree_29 hP hD hS (by first | exact Nat.le_of_ble_eq_true rfl | (simp only [rm_X0_isTree_a, rm_X1_isTree_a]; omega) | omega) (by first | exact Nat.le_of_ble_eq_true rfl | (simp only [rm_X0_isTree_a, rm_X1_isTree_a]; omega) | omega) (by rfl))
def rm_X0_partsChanged_i : Room := ({ frames := 12, cells := 1, slots := 6, locals := 207 } : Room)
set_option maxHeartbeats 400000 in
set_option maxRecDepth 100000 in
theorem t_X0_partsChanged_i (l : Launch) (G : GG) (b0 sz : Nat) (h : Nat) (ad : Nat → Nat) (sn : Value) (hsh : Int64) (r c_ : Int32) (t : Int32) (ou : Nat) (ov : Nat → Int64) (htr : l.stackTraces = false) (hce : isCe r c_ = false) : CTW l yX0_partsChanged cX0_partsChanged 6 (some FieldType.int) [(0, 12, 15, 13), (0, 12, 19, 15)] (rm_X0_partsChanged_i) G b0 [.ref h, .int r, .int c_, .int t, .ref ou] [oC h ad sn hsh, aJ G ou 1 ov] sz (Ri G (fun (r_ : Int32) (_ : Unit) => r_ = nI 1) (fun (_ : Unit) => [oC h ad sn hsh, aJ G ou 1 ov])) := by
  refine CTW.go (by decide) (Nat.le_of_ble_eq_true rfl) (fun p e s m below meth c A ls AR QQ hx hb hr hlk hml hown hnm hts hE hA hAb hsz hP hD hS hl htab hQQ => ?_)
  have hK := hE.1
  have hown : s.vm.findClass RX0 = some m.cls := hown
  have hl : lv_has ls 6 [(0, .ref h), (1, .int r), (2, .int c_), (3, .int t), (4, .ref ou)] := hl
  clear hsz
  refine lv_aload hx hb dX0_partsChanged_0 (lv_at hl 4 rfl) ?_
  refine lv_iconst (v := nI 0) hx hb dX0_partsChanged_2 (by decide) ?_
  refine lv_aload_n hx hb dX0_partsChanged_3 rfl (lv_at hl 0 rfl) ?_
  refine lv_iload_n hx hb dX0_partsChanged_4 rfl (lv_at hl 1 rfl) ?_
  refine lv_iload_n hx hb dX0_partsChanged_5 rfl (lv_at hl 2 rfl) ?_
  refine lv_iload_n hx hb dX0_partsChanged_6 rfl (lv_at hl 3 rfl) ?_
  have hF_1 := fr_free (wc := [oC h ad sn hsh]) [0] rfl hA hS hD
  refine fin_x (ws' := (fun (_ : Unit) => [oC h ad sn hsh, aJ G ou 1 ov])) hS hF_1 (run_VX (As := [.int r, .int c_, .int t]) (rest := [.int (nI 0), .ref ou]) (n9 := 3) hx hb hml hown hts hE hAb hl.1 hS hP hD [0] rfl (by decide) (t_X1_partsChanged_i l G b0 _ h ad sn hsh r c_ t (by exact htr) (by exact hce)) (lw_V q1643 q1644 q1645 q106 q1646) 0 rfl rfl ⟨rfl, by decide, by decide, by decide +kernel⟩ ⟨Nat.le_of_ble_eq_true rfl, Nat.le_of_ble_eq_true rfl⟩ ⟨by first | exact Nat.le_of_ble_eq_true rfl | (simp only [rm_X0_partsChanged_i, rm_X1_partsChanged_i]; omega), by first | exact Nat.le_of_ble_eq_true rfl | (simp only [rm_X0_partsChanged_i, rm_X1_partsChanged_i]; omega)⟩ dX0_partsChanged_7 (Nat.le_of_ble_eq_true rfl) rfl rfl) (fun _ H1_ hk_ hp_ hd_ => fr_sel (ws := [oC h ad sn hsh, aJ G ou 1 ov]) (wc := [oC h ad sn hsh]) (ws' := [oC h ad sn hsh, aJ G ou 1 ov]) [0] [(true, 0), (false, 1)] rfl rfl (by decide) hP hD hk_ hF_1 hp_ hd_) (fun ce9 q9 u_1 H locs h_1 hP hD hS hce9 hcv9 hcl9 => ?_)
  have hP : va_P G.1 vwCl [oC h ad sn hsh, aJ G ou 1 ov] _ := hP
  have hD : va_D A [oC h ad sn hsh, aJ G ou 1 ov] := hD
  refine vx_catch (own := "CrumbPicturesLaw") (name := "java/lang/IndexOutOfBoundsException") hown [] ⟨0, 12, 15, 13⟩ [⟨0, 12, 19, 15⟩] htab (pass0) (by decide) (by decide) (hts _ q1352) (hE.nb q1112 rfl) hce9 hcv9 hcl9 ?_
  refine W.eq (g2 := F0 m 15 ls [.ref q9]) rfl ?_
  refine lv_astore (lv' := [(5, .ref q9), (0, .ref h), (1, .int r), (2, .int c_), (3, .int t), (4, .ref ou)]) hx hb dX0_partsChanged_15 hl (by decide) rfl (fun ls hl => ?_)
  refine lv_iconst (v := nI 1) hx hb dX0_partsChanged_17 (by decide) ?_
  rw [hQQ]
  exact vx_ret (rt_i hx hb hr hlk  ((())) dX0_partsChanged_18 hP hD hS (by first | exact Nat.le_of_ble_eq_true rfl | (simp only [rm_X0_partsChanged_i, rm_X1_partsChanged_i]; omega) | omega) (by first | exact Nat.le_of_ble_eq_true rfl | (simp only [rm_X0_partsChanged_i, rm_X1_partsChanged_i]; omega) | omega) (by rfl))
def rm_X0_partsChanged_a : Room := ({ frames := 12, cells := 1, slots := 6, locals := 206 } : Room)
set_option maxHeartbeats 400000 in
set_option maxRecDepth 100000 in
theorem t_X0_partsChanged_a (l : Launch) (G : GG) (b0 sz : Nat) (h : Nat) (ad : Nat → Nat) (sn : Value) (hsh : Int64) (r c_ : Nat) (t : Int32) (ou : Nat) (ov : Nat → Int64) (htr : l.stackTraces = false) (hr_ : r < 8) (hc_ : c_ < 8) (htt : isSh t = false) : CTW l yX0_partsChanged cX0_partsChanged 6 (some FieldType.int) [(0, 12, 15, 13), (0, 12, 19, 15)] (rm_X0_partsChanged_a) G b0 [.ref h, .int (nI r), .int (nI c_), .int t, .ref ou] [oC h ad sn hsh, aJ G ou 1 ov] sz (Ri G (fun (r_ : Int32) (_ : Unit) => r_ = nI 2) (fun (_ : Unit) => [oC h ad sn hsh, aJ G ou 1 ov])) := by
  refine CTW.go (by decide) (Nat.le_of_ble_eq_true rfl) (fun p e s m below meth c A ls AR QQ hx hb hr hlk hml hown hnm hts hE hA hAb hsz hP hD hS hl htab hQQ => ?_)
  have hK := hE.1
  have hown : s.vm.findClass RX0 = some m.cls := hown
  have hl : lv_has ls 6 [(0, .ref h), (1, .int (nI r)), (2, .int (nI c_)), (3, .int t), (4, .ref ou)] := hl
  clear hsz
  refine lv_aload hx hb dX0_partsChanged_0 (lv_at hl 4 rfl) ?_
  refine lv_iconst (v := nI 0) hx hb dX0_partsChanged_2 (by decide) ?_
  refine lv_aload_n hx hb dX0_partsChanged_3 rfl (lv_at hl 0 rfl) ?_
  refine lv_iload_n hx hb dX0_partsChanged_4 rfl (lv_at hl 1 rfl) ?_
  refine lv_iload_n hx hb dX0_partsChanged_5 rfl (lv_at hl 2 rfl) ?_
  refine lv_iload_n hx hb dX0_partsChanged_6 rfl (lv_at hl 3 rfl) ?_
  have hF_1 := fr_free (wc := [oC h ad sn hsh]) [0] rfl hA hS hD
  refine fin_x (ws' := (fun (_ : Unit) => [oC h ad sn hsh, aJ G ou 1 ov])) hS hF_1 (run_VX (As := [.int (nI r), .int (nI c_), .int t]) (rest := [.int (nI 0), .ref ou]) (n9 := 3) hx hb hml hown hts hE hAb hl.1 hS hP hD [0] rfl (by decide) (t_X1_partsChanged_a l G b0 _ h ad sn hsh r c_ t (by exact htr) (by exact hr_) (by exact hc_) (by exact htt)) (lw_V q1643 q1644 q1645 q106 q1646) 0 rfl rfl ⟨rfl, by decide, by decide, by decide +kernel⟩ ⟨Nat.le_of_ble_eq_true rfl, Nat.le_of_ble_eq_true rfl⟩ ⟨by first | exact Nat.le_of_ble_eq_true rfl | (simp only [rm_X0_partsChanged_a, rm_X1_partsChanged_a]; omega), by first | exact Nat.le_of_ble_eq_true rfl | (simp only [rm_X0_partsChanged_a, rm_X1_partsChanged_a]; omega)⟩ dX0_partsChanged_7 (Nat.le_of_ble_eq_true rfl) rfl rfl) (fun _ H1_ hk_ hp_ hd_ => fr_sel (ws := [oC h ad sn hsh, aJ G ou 1 ov]) (wc := [oC h ad sn hsh]) (ws' := [oC h ad sn hsh, aJ G ou 1 ov]) [0] [(true, 0), (false, 1)] rfl rfl (by decide) hP hD hk_ hF_1 hp_ hd_) (fun ce9 q9 u_1 H locs h_1 hP hD hS hce9 hcv9 hcl9 => ?_)
  have hP : va_P G.1 vwCl [oC h ad sn hsh, aJ G ou 1 ov] _ := hP
  have hD : va_D A [oC h ad sn hsh, aJ G ou 1 ov] := hD
  refine vx_catch (own := "CrumbPicturesLaw") (name := "java/lang/IllegalArgumentException") hown [⟨0, 12, 15, 13⟩] ⟨0, 12, 19, 15⟩ [] htab (pass1 (Or.inr ⟨by decide, _, hts _ q1352, hE.2.2.2.2.2.1.1⟩)) (by decide) (by decide) (hts _ q1355) (hE.nb q849 rfl) hce9 hcv9 hcl9 ?_
  refine W.eq (g2 := F0 m 19 ls [.ref q9]) rfl ?_
  refine lv_astore (lv' := [(5, .ref q9), (0, .ref h), (1, .int (nI r)), (2, .int (nI c_)), (3, .int t), (4, .ref ou)]) hx hb dX0_partsChanged_19 hl (by decide) rfl (fun ls hl => ?_)
  refine lv_iconst (v := nI 2) hx hb dX0_partsChanged_21 (by decide) ?_
  rw [hQQ]
  exact vx_ret (rt_i hx hb hr hlk  ((())) dX0_partsChanged_22 hP hD hS (by first | exact Nat.le_of_ble_eq_true rfl | (simp only [rm_X0_partsChanged_a, rm_X1_partsChanged_a]; omega) | omega) (by first | exact Nat.le_of_ble_eq_true rfl | (simp only [rm_X0_partsChanged_a, rm_X1_partsChanged_a]; omega) | omega) (by rfl))
def rm_X0_shade_i : Room := ({ frames := 12, cells := 1, slots := 6, locals := 203 } : Room)
set_option maxHeartbeats 400000 in
set_option maxRecDepth 100000 in
theorem t_X0_shade_i (l : Launch) (G : GG) (b0 sz : Nat) (h : Nat) (ad : Nat → Nat) (sn : Value) (hsh : Int64) (L : Nat) (stp why : Int32) (r c_ : Int32) (ou : Nat) (ov : Nat → Int64) (htr : l.stackTraces = false) (hce : isCe r c_ = false) : CTW l yX0_shade cX0_shade 5 (some FieldType.int) [(0, 10, 13, 13)] (rm_X0_shade_i) G b0 [.ref h, .int r, .int c_, .ref ou] [oC h ad sn hsh, oX (ad 1) 1 [.ref (ad 11), .int (nI L), .int stp, .int why], aJ G ou 1 ov] sz (Ri G (fun (r_ : Int32) (_ : Unit) => r_ = nI 1) (fun (_ : Unit) => [oC h ad sn hsh, oX (ad 1) 1 [.ref (ad 11), .int (nI L), .int stp, .int why], aJ G ou 1 ov])) := by
  refine CTW.go (by decide) (Nat.le_of_ble_eq_true rfl) (fun p e s m below meth c A ls AR QQ hx hb hr hlk hml hown hnm hts hE hA hAb hsz hP hD hS hl htab hQQ => ?_)
  have hK := hE.1
  have hown : s.vm.findClass RX0 = some m.cls := hown
  have hl : lv_has ls 5 [(0, .ref h), (1, .int r), (2, .int c_), (3, .ref ou)] := hl
  clear hsz
  refine lv_aload_n hx hb dX0_shade_0 rfl (lv_at hl 3 rfl) ?_
  refine lv_iconst (v := nI 0) hx hb dX0_shade_1 (by decide) ?_
  refine lv_aload_n hx hb dX0_shade_2 rfl (lv_at hl 0 rfl) ?_
  refine lv_iload_n hx hb dX0_shade_3 rfl (lv_at hl 1 rfl) ?_
  refine lv_iload_n hx hb dX0_shade_4 rfl (lv_at hl 2 rfl) ?_
  have hF_1 := fr_free (wc := [oC h ad sn hsh, oX (ad 1) 1 [.ref (ad 11), .int (nI L), .int stp, .int why]]) [0, 1] rfl hA hS hD
  refine fin_x (ws' := (fun (_ : Unit) => [oC h ad sn hsh, oX (ad 1) 1 [.ref (ad 11), .int (nI L), .int stp, .int why], aJ G ou 1 ov])) hS hF_1 (run_VX (As := [.int r, .int c_]) (rest := [.int (nI 0), .ref ou]) (n9 := 2) hx hb hml hown hts hE hAb hl.1 hS hP hD [0, 1] rfl (by decide) (t_X1_shade_i l G b0 _ h ad sn hsh L stp why r c_ (by exact htr) (by exact hce)) (lw_V q1522 q1523 q1524 q106 q1525) 0 rfl rfl ⟨rfl, by decide, by decide, by decide +kernel⟩ ⟨Nat.le_of_ble_eq_true rfl, Nat.le_of_ble_eq_true rfl⟩ ⟨by first | exact Nat.le_of_ble_eq_true rfl | (simp only [rm_X0_shade_i, rm_X1_shade_i]; omega), by first | exact Nat.le_of_ble_eq_true rfl | (simp only [rm_X0_shade_i, rm_X1_shade_i]; omega)⟩ dX0_shade_5 (Nat.le_of_ble_eq_true rfl) rfl rfl) (fun _ H1_ hk_ hp_ hd_ => fr_sel (ws := [oC h ad sn hsh, oX (ad 1) 1 [.ref (ad 11), .int (nI L), .int stp, .int why], aJ G ou 1 ov]) (wc := [oC h ad sn hsh, oX (ad 1) 1 [.ref (ad 11), .int (nI L), .int stp, .int why]]) (ws' := [oC h ad sn hsh, oX (ad 1) 1 [.ref (ad 11), .int (nI L), .int stp, .int why], aJ G ou 1 ov]) [0, 1] [(true, 0), (true, 1), (false, 2)] rfl rfl (by decide) hP hD hk_ hF_1 hp_ hd_) (fun ce9 q9 u_1 H locs h_1 hP hD hS hce9 hcv9 hcl9 => ?_)
  have hP : va_P G.1 vwCl [oC h ad sn hsh, oX (ad 1) 1 [.ref (ad 11), .int (nI L), .int stp, .int why], aJ G ou 1 ov] _ := hP
  have hD : va_D A [oC h ad sn hsh, oX (ad 1) 1 [.ref (ad 11), .int (nI L), .int stp, .int why], aJ G ou 1 ov] := hD
  refine vx_catch (own := "CrumbPicturesLaw") (name := "java/lang/IndexOutOfBoundsException") hown [] ⟨0, 10, 13, 13⟩ [] htab (pass0) (by decide) (by decide) (hts _ q1352) (hE.nb q1112 rfl) hce9 hcv9 hcl9 ?_
  refine W.eq (g2 := F0 m 13 ls [.ref q9]) rfl ?_
  refine lv_astore (lv' := [(4, .ref q9), (0, .ref h), (1, .int r), (2, .int c_), (3, .ref ou)]) hx hb dX0_shade_13 hl (by decide) rfl (fun ls hl => ?_)
  refine lv_iconst (v := nI 1) hx hb dX0_shade_15 (by decide) ?_
  rw [hQQ]
  exact vx_ret (rt_i hx hb hr hlk  ((())) dX0_shade_16 hP hD hS (by first | exact Nat.le_of_ble_eq_true rfl | (simp only [rm_X0_shade_i, rm_X1_shade_i]; omega) | omega) (by first | exact Nat.le_of_ble_eq_true rfl | (simp only [rm_X0_shade_i, rm_X1_shade_i]; omega) | omega) (by rfl))
def rm_X0_bandOf_i : Room := ({ frames := 12, cells := 1, slots := 6, locals := 203 } : Room)
set_option maxHeartbeats 400000 in
set_option maxRecDepth 100000 in
theorem t_X0_bandOf_i (l : Launch) (G : GG) (b0 sz : Nat) (h : Nat) (ad : Nat → Nat) (sn : Value) (hsh : Int64) (L : Nat) (stp why : Int32) (r c_ : Int32) (ou : Nat) (ov : Nat → Int64) (htr : l.stackTraces = false) (hL1 : 1 ≤ L) (hL : L ≤ 3) (hce : isCe r c_ = false) : CTW l yX0_bandOf cX0_bandOf 5 (some FieldType.int) [(0, 10, 13, 13)] (rm_X0_bandOf_i) G b0 [.ref h, .int r, .int c_, .ref ou] [oC h ad sn hsh, oX (ad 1) 1 [.ref (ad 11), .int (nI L), .int stp, .int why], aR G (ad 2) 3 (orF ad), oX (ad (15 + L)) 2 [.ref (ad (16 + 3 * L)), .ref (ad (17 + 3 * L)), .ref (ad (18 + 3 * L)), .int (nI 64)], aJ G ou 1 ov] sz (Ri G (fun (r_ : Int32) (_ : Unit) => r_ = nI 1) (fun (_ : Unit) => [oC h ad sn hsh, oX (ad 1) 1 [.ref (ad 11), .int (nI L), .int stp, .int why], aR G (ad 2) 3 (orF ad), oX (ad (15 + L)) 2 [.ref (ad (16 + 3 * L)), .ref (ad (17 + 3 * L)), .ref (ad (18 + 3 * L)), .int (nI 64)], aJ G ou 1 ov])) := by
  refine CTW.go (by decide) (Nat.le_of_ble_eq_true rfl) (fun p e s m below meth c A ls AR QQ hx hb hr hlk hml hown hnm hts hE hA hAb hsz hP hD hS hl htab hQQ => ?_)
  have hK := hE.1
  have hown : s.vm.findClass RX0 = some m.cls := hown
  have hl : lv_has ls 5 [(0, .ref h), (1, .int r), (2, .int c_), (3, .ref ou)] := hl
  clear hsz
  refine lv_aload_n hx hb dX0_bandOf_0 rfl (lv_at hl 3 rfl) ?_
  refine lv_iconst (v := nI 0) hx hb dX0_bandOf_1 (by decide) ?_
  refine lv_aload_n hx hb dX0_bandOf_2 rfl (lv_at hl 0 rfl) ?_
  refine lv_iload_n hx hb dX0_bandOf_3 rfl (lv_at hl 1 rfl) ?_
  refine lv_iload_n hx hb dX0_bandOf_4 rfl (lv_at hl 2 rfl) ?_
  have hF_1 := fr_free (wc := [oC h ad sn hsh, oX (ad 1) 1 [.ref (ad 11), .int (nI L), .int stp, .int why], aR G (ad 2) 3 (orF ad), oX (ad (15 + L)) 2 [.ref (ad (16 + 3 * L)), .ref (ad (17 + 3 * L)), .ref (ad (18 + 3 * L)), .int (nI 64)]]) [0, 1, 2, 3] rfl hA hS hD
  refine fin_x (ws' := (fun (_ : Unit) => [oC h ad sn hsh, oX (ad 1) 1 [.ref (ad 11), .int (nI L), .int stp, .int why], aR G (ad 2) 3 (orF ad), oX (ad (15 + L)) 2 [.ref (ad (16 + 3 * L)), .ref (ad (17 + 3 * L)), .ref (ad (18 + 3 * L)), .int (nI 64)], aJ G ou 1 ov])) hS hF_1 (run_VX (As := [.int r, .int c_]) (rest := [.int (nI 0), .ref ou]) (n9 := 2) hx hb hml hown hts hE hAb hl.1 hS hP hD [0, 1, 2, 3] rfl (by decide) (t_X1_bandOf_i l G b0 _ h ad sn hsh L stp why r c_ (by exact htr) (by exact hL1) (by exact hL) (by exact hce)) (lw_V q1536 q1537 q1538 q106 q1539) 0 rfl rfl ⟨rfl, by decide, by decide, by decide +kernel⟩ ⟨Nat.le_of_ble_eq_true rfl, Nat.le_of_ble_eq_true rfl⟩ ⟨by first | exact Nat.le_of_ble_eq_true rfl | (simp only [rm_X0_bandOf_i, rm_X1_bandOf_i]; omega), by first | exact Nat.le_of_ble_eq_true rfl | (simp only [rm_X0_bandOf_i, rm_X1_bandOf_i]; omega)⟩ dX0_bandOf_5 (Nat.le_of_ble_eq_true rfl) rfl rfl) (fun _ H1_ hk_ hp_ hd_ => fr_sel (ws := [oC h ad sn hsh, oX (ad 1) 1 [.ref (ad 11), .int (nI L), .int stp, .int why], aR G (ad 2) 3 (orF ad), oX (ad (15 + L)) 2 [.ref (ad (16 + 3 * L)), .ref (ad (17 + 3 * L)), .ref (ad (18 + 3 * L)), .int (nI 64)], aJ G ou 1 ov]) (wc := [oC h ad sn hsh, oX (ad 1) 1 [.ref (ad 11), .int (nI L), .int stp, .int why], aR G (ad 2) 3 (orF ad), oX (ad (15 + L)) 2 [.ref (ad (16 + 3 * L)), .ref (ad (17 + 3 * L)), .ref (ad (18 + 3 * L)), .int (nI 64)]]) (ws' := [oC h ad sn hsh, oX (ad 1) 1 [.ref (ad 11), .int (nI L), .int stp, .int why], aR G (ad 2) 3 (orF ad), oX (ad (15 + L)) 2 [.ref (ad (16 + 3 * L)), .ref (ad (17 + 3 * L)), .ref (ad (18 + 3 * L)), .int (nI 64)], aJ G ou 1 ov]) [0, 1, 2, 3] [(true, 0), (true, 1), (true, 2), (true, 3), (false, 4)] rfl rfl (by decide) hP hD hk_ hF_1 hp_ hd_) (fun ce9 q9 u_1 H locs h_1 hP hD hS hce9 hcv9 hcl9 => ?_)
  have hP : va_P G.1 vwCl [oC h ad sn hsh, oX (ad 1) 1 [.ref (ad 11), .int (nI L), .int stp, .int why], aR G (ad 2) 3 (orF ad), oX (ad (15 + L)) 2 [.ref (ad (16 + 3 * L)), .ref (ad (17 + 3 * L)), .ref (ad (18 + 3 * L)), .int (nI 64)], aJ G ou 1 ov] _ := hP
  have hD : va_D A [oC h ad sn hsh, oX (ad 1) 1 [.ref (ad 11), .int (nI L), .int stp, .int why], aR G (ad 2) 3 (orF ad), oX (ad (15 + L)) 2 [.ref (ad (16 + 3 * L)), .ref (ad (17 + 3 * L)), .ref (ad (18 + 3 * L)), .int (nI 64)], aJ G ou 1 ov] := hD
  refine vx_catch (own := "CrumbPicturesLaw") (name := "java/lang/IndexOutOfBoundsException") hown [] ⟨0, 10, 13, 13⟩ [] htab (pass0) (by decide) (by decide) (hts _ q1352) (hE.nb q1112 rfl) hce9 hcv9 hcl9 ?_
  refine W.eq (g2 := F0 m 13 ls [.ref q9]) rfl ?_
  refine lv_astore (lv' := [(4, .ref q9), (0, .ref h), (1, .int r), (2, .int c_), (3, .ref ou)]) hx hb dX0_bandOf_13 hl (by decide) rfl (fun ls hl => ?_)
  refine lv_iconst (v := nI 1) hx hb dX0_bandOf_15 (by decide) ?_
  rw [hQQ]
  exact vx_ret (rt_i hx hb hr hlk  ((())) dX0_bandOf_16 hP hD hS (by first | exact Nat.le_of_ble_eq_true rfl | (simp only [rm_X0_bandOf_i, rm_X1_bandOf_i]; omega) | omega) (by first | exact Nat.le_of_ble_eq_true rfl | (simp only [rm_X0_bandOf_i, rm_X1_bandOf_i]; omega) | omega) (by rfl))
def rm_X0_placeOf_i : Room := ({ frames := 12, cells := 1, slots := 6, locals := 203 } : Room)
set_option maxHeartbeats 400000 in
set_option maxRecDepth 100000 in
theorem t_X0_placeOf_i (l : Launch) (G : GG) (b0 sz : Nat) (h : Nat) (ad : Nat → Nat) (sn : Value) (hsh : Int64) (L : Nat) (stp why : Int32) (r c_ : Int32) (ou : Nat) (ov : Nat → Int64) (htr : l.stackTraces = false) (hL1 : 1 ≤ L) (hL : L ≤ 3) (hce : isCe r c_ = false) : CTW l yX0_placeOf cX0_placeOf 5 (some FieldType.int) [(0, 10, 13, 13)] (rm_X0_placeOf_i) G b0 [.ref h, .int r, .int c_, .ref ou] [oC h ad sn hsh, oX (ad 1) 1 [.ref (ad 11), .int (nI L), .int stp, .int why], aR G (ad 2) 3 (orF ad), oX (ad (15 + L)) 2 [.ref (ad (16 + 3 * L)), .ref (ad (17 + 3 * L)), .ref (ad (18 + 3 * L)), .int (nI 64)], aJ G ou 1 ov] sz (Ri G (fun (r_ : Int32) (_ : Unit) => r_ = nI 1) (fun (_ : Unit) => [oC h ad sn hsh, oX (ad 1) 1 [.ref (ad 11), .int (nI L), .int stp, .int why], aR G (ad 2) 3 (orF ad), oX (ad (15 + L)) 2 [.ref (ad (16 + 3 * L)), .ref (ad (17 + 3 * L)), .ref (ad (18 + 3 * L)), .int (nI 64)], aJ G ou 1 ov])) := by
  refine CTW.go (by decide) (Nat.le_of_ble_eq_true rfl) (fun p e s m below meth c A ls AR QQ hx hb hr hlk hml hown hnm hts hE hA hAb hsz hP hD hS hl htab hQQ => ?_)
  have hK := hE.1
  have hown : s.vm.findClass RX0 = some m.cls := hown
  have hl : lv_has ls 5 [(0, .ref h), (1, .int r), (2, .int c_), (3, .ref ou)] := hl
  clear hsz
  refine lv_aload_n hx hb dX0_placeOf_0 rfl (lv_at hl 3 rfl) ?_
  refine lv_iconst (v := nI 0) hx hb dX0_placeOf_1 (by decide) ?_
  refine lv_aload_n hx hb dX0_placeOf_2 rfl (lv_at hl 0 rfl) ?_
  refine lv_iload_n hx hb dX0_placeOf_3 rfl (lv_at hl 1 rfl) ?_
  refine lv_iload_n hx hb dX0_placeOf_4 rfl (lv_at hl 2 rfl) ?_
  have hF_1 := fr_free (wc := [oC h ad sn hsh, oX (ad 1) 1 [.ref (ad 11), .int (nI L), .int stp, .int why], aR G (ad 2) 3 (orF ad), oX (ad (15 + L)) 2 [.ref (ad (16 + 3 * L)), .ref (ad (17 + 3 * L)), .ref (ad (18 + 3 * L)), .int (nI 64)]]) [0, 1, 2, 3] rfl hA hS hD
  refine fin_x (ws' := (fun (_ : Unit) => [oC h ad sn hsh, oX (ad 1) 1 [.ref (ad 11), .int (nI L), .int stp, .int why], aR G (ad 2) 3 (orF ad), oX (ad (15 + L)) 2 [.ref (ad (16 + 3 * L)), .ref (ad (17 + 3 * L)), .ref (ad (18 + 3 * L)), .int (nI 64)], aJ G ou 1 ov])) hS hF_1 (run_VX (As := [.int r, .int c_]) (rest := [.int (nI 0), .ref ou]) (n9 := 2) hx hb hml hown hts hE hAb hl.1 hS hP hD [0, 1, 2, 3] rfl (by decide) (t_X1_placeOf_i l G b0 _ h ad sn hsh L stp why r c_ (by exact htr) (by exact hL1) (by exact hL) (by exact hce)) (lw_V q1543 q1544 q1545 q106 q1546) 0 rfl rfl ⟨rfl, by decide, by decide, by decide +kernel⟩ ⟨Nat.le_of_ble_eq_true rfl, Nat.le_of_ble_eq_true rfl⟩ ⟨by first | exact Nat.le_of_ble_eq_true rfl | (simp only [rm_X0_placeOf_i, rm_X1_placeOf_i]; omega), by first | exact Nat.le_of_ble_eq_true rfl | (simp only [rm_X0_placeOf_i, rm_X1_placeOf_i]; omega)⟩ dX0_placeOf_5 (Nat.le_of_ble_eq_true rfl) rfl rfl) (fun _ H1_ hk_ hp_ hd_ => fr_sel (ws := [oC h ad sn hsh, oX (ad 1) 1 [.ref (ad 11), .int (nI L), .int stp, .int why], aR G (ad 2) 3 (orF ad), oX (ad (15 + L)) 2 [.ref (ad (16 + 3 * L)), .ref (ad (17 + 3 * L)), .ref (ad (18 + 3 * L)), .int (nI 64)], aJ G ou 1 ov]) (wc := [oC h ad sn hsh, oX (ad 1) 1 [.ref (ad 11), .int (nI L), .int stp, .int why], aR G (ad 2) 3 (orF ad), oX (ad (15 + L)) 2 [.ref (ad (16 + 3 * L)), .ref (ad (17 + 3 * L)), .ref (ad (18 + 3 * L)), .int (nI 64)]]) (ws' := [oC h ad sn hsh, oX (ad 1) 1 [.ref (ad 11), .int (nI L), .int stp, .int why], aR G (ad 2) 3 (orF ad), oX (ad (15 + L)) 2 [.ref (ad (16 + 3 * L)), .ref (ad (17 + 3 * L)), .ref (ad (18 + 3 * L)), .int (nI 64)], aJ G ou 1 ov]) [0, 1, 2, 3] [(true, 0), (true, 1), (true, 2), (true, 3), (false, 4)] rfl rfl (by decide) hP hD hk_ hF_1 hp_ hd_) (fun ce9 q9 u_1 H locs h_1 hP hD hS hce9 hcv9 hcl9 => ?_)
  have hP : va_P G.1 vwCl [oC h ad sn hsh, oX (ad 1) 1 [.ref (ad 11), .int (nI L), .int stp, .int why], aR G (ad 2) 3 (orF ad), oX (ad (15 + L)) 2 [.ref (ad (16 + 3 * L)), .ref (ad (17 + 3 * L)), .ref (ad (18 + 3 * L)), .int (nI 64)], aJ G ou 1 ov] _ := hP
  have hD : va_D A [oC h ad sn hsh, oX (ad 1) 1 [.ref (ad 11), .int (nI L), .int stp, .int why], aR G (ad 2) 3 (orF ad), oX (ad (15 + L)) 2 [.ref (ad (16 + 3 * L)), .ref (ad (17 + 3 * L)), .ref (ad (18 + 3 * L)), .int (nI 64)], aJ G ou 1 ov] := hD
  refine vx_catch (own := "CrumbPicturesLaw") (name := "java/lang/IndexOutOfBoundsException") hown [] ⟨0, 10, 13, 13⟩ [] htab (pass0) (by decide) (by decide) (hts _ q1352) (hE.nb q1112 rfl) hce9 hcv9 hcl9 ?_
  refine W.eq (g2 := F0 m 13 ls [.ref q9]) rfl ?_
  refine lv_astore (lv' := [(4, .ref q9), (0, .ref h), (1, .int r), (2, .int c_), (3, .ref ou)]) hx hb dX0_placeOf_13 hl (by decide) rfl (fun ls hl => ?_)
  refine lv_iconst (v := nI 1) hx hb dX0_placeOf_15 (by decide) ?_
  rw [hQQ]
  exact vx_ret (rt_i hx hb hr hlk  ((())) dX0_placeOf_16 hP hD hS (by first | exact Nat.le_of_ble_eq_true rfl | (simp only [rm_X0_placeOf_i, rm_X1_placeOf_i]; omega) | omega) (by first | exact Nat.le_of_ble_eq_true rfl | (simp only [rm_X0_placeOf_i, rm_X1_placeOf_i]; omega) | omega) (by rfl))
def rm_X0_dropCrumbs_a : Room := ({ frames := 12, cells := 1, slots := 6, locals := 202 } : Room)
set_option maxHeartbeats 400000 in
set_option maxRecDepth 100000 in
theorem t_X0_dropCrumbs_a (l : Launch) (G : GG) (b0 sz : Nat) (h : Nat) (ad : Nat → Nat) (sn : Value) (hsh : Int64) (t : Int32) (ou : Nat) (ov : Nat → Int64) (htr : l.stackTraces = false) (htt : isSh t = false) : CTW l yX0_dropCrumbs cX0_dropCrumbs 4 (some FieldType.int) [(0, 9, 12, 15), (0, 9, 15, 20)] (rm_X0_dropCrumbs_a) G b0 [.ref h, .int t, .ref ou] [oC h ad sn hsh, aJ G ou 1 ov] sz (Ri G (fun (r_ : Int32) (_ : Unit) => r_ = nI 1) (fun (_ : Unit) => [oC h ad sn hsh, aJ G ou 1 ov])) := by
  refine CTW.go (by decide) (Nat.le_of_ble_eq_true rfl) (fun p e s m below meth c A ls AR QQ hx hb hr hlk hml hown hnm hts hE hA hAb hsz hP hD hS hl htab hQQ => ?_)
  have hK := hE.1
  have hown : s.vm.findClass RX0 = some m.cls := hown
  have hl : lv_has ls 4 [(0, .ref h), (1, .int t), (2, .ref ou)] := hl
  clear hsz
  refine lv_aload_n hx hb dX0_dropCrumbs_0 rfl (lv_at hl 2 rfl) ?_
  refine lv_iconst (v := nI 0) hx hb dX0_dropCrumbs_1 (by decide) ?_
  refine lv_aload_n hx hb dX0_dropCrumbs_2 rfl (lv_at hl 0 rfl) ?_
  refine lv_iload_n hx hb dX0_dropCrumbs_3 rfl (lv_at hl 1 rfl) ?_
  have hF_1 := fr_free (wc := [oC h ad sn hsh]) [0] rfl hA hS hD
  refine fin_x (ws' := (fun (_ : Unit) => [oC h ad sn hsh, aJ G ou 1 ov])) hS hF_1 (run_VX (As := [.int t]) (rest := [.int (nI 0), .ref ou]) (n9 := 1) hx hb hml hown hts hE hAb hl.1 hS hP hD [0] rfl (by decide) (t_X1_dropCrumbs_a l G b0 _ h ad sn hsh t (by exact htr) (by exact htt)) (lw_V q1430 q1431 q1432 q106 q1433) 0 rfl rfl ⟨rfl, by decide, by decide, by decide +kernel⟩ ⟨Nat.le_of_ble_eq_true rfl, Nat.le_of_ble_eq_true rfl⟩ ⟨by first | exact Nat.le_of_ble_eq_true rfl | (simp only [rm_X0_dropCrumbs_a, rm_X1_dropCrumbs_a]; omega), by first | exact Nat.le_of_ble_eq_true rfl | (simp only [rm_X0_dropCrumbs_a, rm_X1_dropCrumbs_a]; omega)⟩ dX0_dropCrumbs_4 (Nat.le_of_ble_eq_true rfl) rfl rfl) (fun _ H1_ hk_ hp_ hd_ => fr_sel (ws := [oC h ad sn hsh, aJ G ou 1 ov]) (wc := [oC h ad sn hsh]) (ws' := [oC h ad sn hsh, aJ G ou 1 ov]) [0] [(true, 0), (false, 1)] rfl rfl (by decide) hP hD hk_ hF_1 hp_ hd_) (fun ce9 q9 u_1 H locs h_1 hP hD hS hce9 hcv9 hcl9 => ?_)
  have hP : va_P G.1 vwCl [oC h ad sn hsh, aJ G ou 1 ov] _ := hP
  have hD : va_D A [oC h ad sn hsh, aJ G ou 1 ov] := hD
  refine vx_catch (own := "CrumbPicturesLaw") (name := "java/lang/IllegalArgumentException") hown [] ⟨0, 9, 12, 15⟩ [⟨0, 9, 15, 20⟩] htab (pass0) (by decide) (by decide) (hts _ q1355) (hE.nb q849 rfl) hce9 hcv9 hcl9 ?_
  refine W.eq (g2 := F0 m 12 ls [.ref q9]) rfl ?_
  refine lv_astore_n (lv' := [(3, .ref q9), (0, .ref h), (1, .int t), (2, .ref ou)]) hx hb dX0_dropCrumbs_12 rfl hl (by decide) rfl (fun ls hl => ?_)
  refine lv_iconst (v := nI 1) hx hb dX0_dropCrumbs_13 (by decide) ?_
  rw [hQQ]
  exact vx_ret (rt_i hx hb hr hlk  ((())) dX0_dropCrumbs_14 hP hD hS (by first | exact Nat.le_of_ble_eq_true rfl | (simp only [rm_X0_dropCrumbs_a, rm_X1_dropCrumbs_a]; omega) | omega) (by first | exact Nat.le_of_ble_eq_true rfl | (simp only [rm_X0_dropCrumbs_a, rm_X1_dropCrumbs_a]; omega) | omega) (by rfl))
def rm_X0_crumbs_a : Room := ({ frames := 12, cells := 1, slots := 6, locals := 201 } : Room)
set_option maxHeartbeats 400000 in
set_option maxRecDepth 100000 in
theorem t_X0_crumbs_a (l : Launch) (G : GG) (b0 sz : Nat) (h : Nat) (ad : Nat → Nat) (sn : Value) (hsh : Int64) (t : Int32) (ou : Nat) (ov : Nat → Int64) (htr : l.stackTraces = false) (htt : isSh t = false) : CTW l yX0_crumbs cX0_crumbs 4 (some FieldType.int) [(0, 9, 12, 15)] (rm_X0_crumbs_a) G b0 [.ref h, .int t, .ref ou] [oC h ad sn hsh, aJ G ou 1 ov] sz (Ri G (fun (r_ : Int32) (_ : Unit) => r_ = nI 1) (fun (_ : Unit) => [oC h ad sn hsh, aJ G ou 1 ov])) := by
  refine CTW.go (by decide) (Nat.le_of_ble_eq_true rfl) (fun p e s m below meth c A ls AR QQ hx hb hr hlk hml hown hnm hts hE hA hAb hsz hP hD hS hl htab hQQ => ?_)
  have hK := hE.1
  have hown : s.vm.findClass RX0 = some m.cls := hown
  have hl : lv_has ls 4 [(0, .ref h), (1, .int t), (2, .ref ou)] := hl
  clear hsz
  refine lv_aload_n hx hb dX0_crumbs_0 rfl (lv_at hl 2 rfl) ?_
  refine lv_iconst (v := nI 0) hx hb dX0_crumbs_1 (by decide) ?_
  refine lv_aload_n hx hb dX0_crumbs_2 rfl (lv_at hl 0 rfl) ?_
  refine lv_iload_n hx hb dX0_crumbs_3 rfl (lv_at hl 1 rfl) ?_
  have hF_1 := fr_free (wc := [oC h ad sn hsh]) [0] rfl hA hS hD
  refine fin_x (ws' := (fun (_ : Unit) => [oC h ad sn hsh, aJ G ou 1 ov])) hS hF_1 (run_VX (As := [.int t]) (rest := [.int (nI 0), .ref ou]) (n9 := 1) hx hb hml hown hts hE hAb hl.1 hS hP hD [0] rfl (by decide) (t_X1_crumbs_a l G b0 _ h ad sn hsh t (by exact htr) (by exact htt)) (lw_V q1571 q1572 q1573 q106 q1574) 0 rfl rfl ⟨rfl, by decide, by decide, by decide +kernel⟩ ⟨Nat.le_of_ble_eq_true rfl, Nat.le_of_ble_eq_true rfl⟩ ⟨by first | exact Nat.le_of_ble_eq_true rfl | (simp only [rm_X0_crumbs_a, rm_X1_crumbs_a]; omega), by first | exact Nat.le_of_ble_eq_true rfl | (simp only [rm_X0_crumbs_a, rm_X1_crumbs_a]; omega)⟩ dX0_crumbs_4 (Nat.le_of_ble_eq_true rfl) rfl rfl) (fun _ H1_ hk_ hp_ hd_ => fr_sel (ws := [oC h ad sn hsh, aJ G ou 1 ov]) (wc := [oC h ad sn hsh]) (ws' := [oC h ad sn hsh, aJ G ou 1 ov]) [0] [(true, 0), (false, 1)] rfl rfl (by decide) hP hD hk_ hF_1 hp_ hd_) (fun ce9 q9 u_1 H locs h_1 hP hD hS hce9 hcv9 hcl9 => ?_)
  have hP : va_P G.1 vwCl [oC h ad sn hsh, aJ G ou 1 ov] _ := hP
  have hD : va_D A [oC h ad sn hsh, aJ G ou 1 ov] := hD
  refine vx_catch (own := "CrumbPicturesLaw") (name := "java/lang/IllegalArgumentException") hown [] ⟨0, 9, 12, 15⟩ [] htab (pass0) (by decide) (by decide) (hts _ q1355) (hE.nb q849 rfl) hce9 hcv9 hcl9 ?_
  refine W.eq (g2 := F0 m 12 ls [.ref q9]) rfl ?_
  refine lv_astore_n (lv' := [(3, .ref q9), (0, .ref h), (1, .int t), (2, .ref ou)]) hx hb dX0_crumbs_12 rfl hl (by decide) rfl (fun ls hl => ?_)
  refine lv_iconst (v := nI 1) hx hb dX0_crumbs_13 (by decide) ?_
  rw [hQQ]
  exact vx_ret (rt_i hx hb hr hlk  ((())) dX0_crumbs_14 hP hD hS (by first | exact Nat.le_of_ble_eq_true rfl | (simp only [rm_X0_crumbs_a, rm_X1_crumbs_a]; omega) | omega) (by first | exact Nat.le_of_ble_eq_true rfl | (simp only [rm_X0_crumbs_a, rm_X1_crumbs_a]; omega) | omega) (by rfl))
def rm_X0_cost_a : Room := ({ frames := 12, cells := 1, slots := 6, locals := 201 } : Room)
set_option maxHeartbeats 400000 in
set_option maxRecDepth 100000 in
theorem t_X0_cost_a (l : Launch) (G : GG) (b0 sz : Nat) (h : Nat) (ad : Nat → Nat) (sn : Value) (hsh : Int64) (t : Int32) (ou : Nat) (ov : Nat → Int64) (htr : l.stackTraces = false) (htt : isSh t = false) : CTW l yX0_cost cX0_cost 4 (some FieldType.int) [(0, 9, 12, 15)] (rm_X0_cost_a) G b0 [.ref h, .int t, .ref ou] [oC h ad sn hsh, aJ G ou 1 ov] sz (Ri G (fun (r_ : Int32) (_ : Unit) => r_ = nI 1) (fun (_ : Unit) => [oC h ad sn hsh, aJ G ou 1 ov])) := by
  refine CTW.go (by decide) (Nat.le_of_ble_eq_true rfl) (fun p e s m below meth c A ls AR QQ hx hb hr hlk hml hown hnm hts hE hA hAb hsz hP hD hS hl htab hQQ => ?_)
  have hK := hE.1
  have hown : s.vm.findClass RX0 = some m.cls := hown
  have hl : lv_has ls 4 [(0, .ref h), (1, .int t), (2, .ref ou)] := hl
  clear hsz
  refine lv_aload_n hx hb dX0_cost_0 rfl (lv_at hl 2 rfl) ?_
  refine lv_iconst (v := nI 0) hx hb dX0_cost_1 (by decide) ?_
  refine lv_aload_n hx hb dX0_cost_2 rfl (lv_at hl 0 rfl) ?_
  refine lv_iload_n hx hb dX0_cost_3 rfl (lv_at hl 1 rfl) ?_
  have hF_1 := fr_free (wc := [oC h ad sn hsh]) [0] rfl hA hS hD
  refine fin_x (ws' := (fun (_ : Unit) => [oC h ad sn hsh, aJ G ou 1 ov])) hS hF_1 (run_VX (As := [.int t]) (rest := [.int (nI 0), .ref ou]) (n9 := 1) hx hb hml hown hts hE hAb hl.1 hS hP hD [0] rfl (by decide) (t_X1_cost_a l G b0 _ h ad sn hsh t (by exact htr) (by exact htt)) (lw_V q1578 q1579 q1580 q106 q1581) 0 rfl rfl ⟨rfl, by decide, by decide, by decide +kernel⟩ ⟨Nat.le_of_ble_eq_true rfl, Nat.le_of_ble_eq_true rfl⟩ ⟨by first | exact Nat.le_of_ble_eq_true rfl | (simp only [rm_X0_cost_a, rm_X1_cost_a]; omega), by first | exact Nat.le_of_ble_eq_true rfl | (simp only [rm_X0_cost_a, rm_X1_cost_a]; omega)⟩ dX0_cost_4 (Nat.le_of_ble_eq_true rfl) rfl rfl) (fun _ H1_ hk_ hp_ hd_ => fr_sel (ws := [oC h ad sn hsh, aJ G ou 1 ov]) (wc := [oC h ad sn hsh]) (ws' := [oC h ad sn hsh, aJ G ou 1 ov]) [0] [(true, 0), (false, 1)] rfl rfl (by decide) hP hD hk_ hF_1 hp_ hd_) (fun ce9 q9 u_1 H locs h_1 hP hD hS hce9 hcv9 hcl9 => ?_)
  have hP : va_P G.1 vwCl [oC h ad sn hsh, aJ G ou 1 ov] _ := hP
  have hD : va_D A [oC h ad sn hsh, aJ G ou 1 ov] := hD
  refine vx_catch (own := "CrumbPicturesLaw") (name := "java/lang/IllegalArgumentException") hown [] ⟨0, 9, 12, 15⟩ [] htab (pass0) (by decide) (by decide) (hts _ q1355) (hE.nb q849 rfl) hce9 hcv9 hcl9 ?_
  refine W.eq (g2 := F0 m 12 ls [.ref q9]) rfl ?_
  refine lv_astore_n (lv' := [(3, .ref q9), (0, .ref h), (1, .int t), (2, .ref ou)]) hx hb dX0_cost_12 rfl hl (by decide) rfl (fun ls hl => ?_)
  refine lv_iconst (v := nI 1) hx hb dX0_cost_13 (by decide) ?_
  rw [hQQ]
  exact vx_ret (rt_i hx hb hr hlk  ((())) dX0_cost_14 hP hD hS (by first | exact Nat.le_of_ble_eq_true rfl | (simp only [rm_X0_cost_a, rm_X1_cost_a]; omega) | omega) (by first | exact Nat.le_of_ble_eq_true rfl | (simp only [rm_X0_cost_a, rm_X1_cost_a]; omega) | omega) (by rfl))
def rm_X0_worst_a : Room := ({ frames := 12, cells := 1, slots := 6, locals := 201 } : Room)
set_option maxHeartbeats 400000 in
set_option maxRecDepth 100000 in
theorem t_X0_worst_a (l : Launch) (G : GG) (b0 sz : Nat) (h : Nat) (ad : Nat → Nat) (sn : Value) (hsh : Int64) (t : Int32) (ou : Nat) (ov : Nat → Int64) (htr : l.stackTraces = false) (htt : isSh t = false) : CTW l yX0_worst cX0_worst 4 (some FieldType.int) [(0, 9, 12, 15)] (rm_X0_worst_a) G b0 [.ref h, .int t, .ref ou] [oC h ad sn hsh, aJ G ou 1 ov] sz (Ri G (fun (r_ : Int32) (_ : Unit) => r_ = nI 1) (fun (_ : Unit) => [oC h ad sn hsh, aJ G ou 1 ov])) := by
  refine CTW.go (by decide) (Nat.le_of_ble_eq_true rfl) (fun p e s m below meth c A ls AR QQ hx hb hr hlk hml hown hnm hts hE hA hAb hsz hP hD hS hl htab hQQ => ?_)
  have hK := hE.1
  have hown : s.vm.findClass RX0 = some m.cls := hown
  have hl : lv_has ls 4 [(0, .ref h), (1, .int t), (2, .ref ou)] := hl
  clear hsz
  refine lv_aload_n hx hb dX0_worst_0 rfl (lv_at hl 2 rfl) ?_
  refine lv_iconst (v := nI 0) hx hb dX0_worst_1 (by decide) ?_
  refine lv_aload_n hx hb dX0_worst_2 rfl (lv_at hl 0 rfl) ?_
  refine lv_iload_n hx hb dX0_worst_3 rfl (lv_at hl 1 rfl) ?_
  have hF_1 := fr_free (wc := [oC h ad sn hsh]) [0] rfl hA hS hD
  refine fin_x (ws' := (fun (_ : Unit) => [oC h ad sn hsh, aJ G ou 1 ov])) hS hF_1 (run_VX (As := [.int t]) (rest := [.int (nI 0), .ref ou]) (n9 := 1) hx hb hml hown hts hE hAb hl.1 hS hP hD [0] rfl (by decide) (t_X1_worst_a l G b0 _ h ad sn hsh t (by exact htr) (by exact htt)) (lw_V q1585 q1586 q1587 q106 q1588) 0 rfl rfl ⟨rfl, by decide, by decide, by decide +kernel⟩ ⟨Nat.le_of_ble_eq_true rfl, Nat.le_of_ble_eq_true rfl⟩ ⟨by first | exact Nat.le_of_ble_eq_true rfl | (simp only [rm_X0_worst_a, rm_X1_worst_a]; omega), by first | exact Nat.le_of_ble_eq_true rfl | (simp only [rm_X0_worst_a, rm_X1_worst_a]; omega)⟩ dX0_worst_4 (Nat.le_of_ble_eq_true rfl) rfl rfl) (fun _ H1_ hk_ hp_ hd_ => fr_sel (ws := [oC h ad sn hsh, aJ G ou 1 ov]) (wc := [oC h ad sn hsh]) (ws' := [oC h ad sn hsh, aJ G ou 1 ov]) [0] [(true, 0), (false, 1)] rfl rfl (by decide) hP hD hk_ hF_1 hp_ hd_) (fun ce9 q9 u_1 H locs h_1 hP hD hS hce9 hcv9 hcl9 => ?_)
  have hP : va_P G.1 vwCl [oC h ad sn hsh, aJ G ou 1 ov] _ := hP
  have hD : va_D A [oC h ad sn hsh, aJ G ou 1 ov] := hD
  refine vx_catch (own := "CrumbPicturesLaw") (name := "java/lang/IllegalArgumentException") hown [] ⟨0, 9, 12, 15⟩ [] htab (pass0) (by decide) (by decide) (hts _ q1355) (hE.nb q849 rfl) hce9 hcv9 hcl9 ?_
  refine W.eq (g2 := F0 m 12 ls [.ref q9]) rfl ?_
  refine lv_astore_n (lv' := [(3, .ref q9), (0, .ref h), (1, .int t), (2, .ref ou)]) hx hb dX0_worst_12 rfl hl (by decide) rfl (fun ls hl => ?_)
  refine lv_iconst (v := nI 1) hx hb dX0_worst_13 (by decide) ?_
  rw [hQQ]
  exact vx_ret (rt_i hx hb hr hlk  ((())) dX0_worst_14 hP hD hS (by first | exact Nat.le_of_ble_eq_true rfl | (simp only [rm_X0_worst_a, rm_X1_worst_a]; omega) | omega) (by first | exact Nat.le_of_ble_eq_true rfl | (simp only [rm_X0_worst_a, rm_X1_worst_a]; omega) | omega) (by rfl))
def rm_X0_trees_a : Room := ({ frames := 12, cells := 1, slots := 6, locals := 201 } : Room)
set_option maxHeartbeats 400000 in
set_option maxRecDepth 100000 in
theorem t_X0_trees_a (l : Launch) (G : GG) (b0 sz : Nat) (h : Nat) (ad : Nat → Nat) (sn : Value) (hsh : Int64) (t : Int32) (ou : Nat) (ov : Nat → Int64) (htr : l.stackTraces = false) (htt : isSh t = false) : CTW l yX0_trees cX0_trees 4 (some FieldType.int) [(0, 9, 12, 15)] (rm_X0_trees_a) G b0 [.ref h, .int t, .ref ou] [oC h ad sn hsh, aJ G ou 1 ov] sz (Ri G (fun (r_ : Int32) (_ : Unit) => r_ = nI 1) (fun (_ : Unit) => [oC h ad sn hsh, aJ G ou 1 ov])) := by
  refine CTW.go (by decide) (Nat.le_of_ble_eq_true rfl) (fun p e s m below meth c A ls AR QQ hx hb hr hlk hml hown hnm hts hE hA hAb hsz hP hD hS hl htab hQQ => ?_)
  have hK := hE.1
  have hown : s.vm.findClass RX0 = some m.cls := hown
  have hl : lv_has ls 4 [(0, .ref h), (1, .int t), (2, .ref ou)] := hl
  clear hsz
  refine lv_aload_n hx hb dX0_trees_0 rfl (lv_at hl 2 rfl) ?_
  refine lv_iconst (v := nI 0) hx hb dX0_trees_1 (by decide) ?_
  refine lv_aload_n hx hb dX0_trees_2 rfl (lv_at hl 0 rfl) ?_
  refine lv_iload_n hx hb dX0_trees_3 rfl (lv_at hl 1 rfl) ?_
  have hF_1 := fr_free (wc := [oC h ad sn hsh]) [0] rfl hA hS hD
  refine fin_x (ws' := (fun (_ : Unit) => [oC h ad sn hsh, aJ G ou 1 ov])) hS hF_1 (run_VX (As := [.int t]) (rest := [.int (nI 0), .ref ou]) (n9 := 1) hx hb hml hown hts hE hAb hl.1 hS hP hD [0] rfl (by decide) (t_X1_trees_a l G b0 _ h ad sn hsh t (by exact htr) (by exact htt)) (lw_V q1606 q1607 q1608 q106 q1609) 0 rfl rfl ⟨rfl, by decide, by decide, by decide +kernel⟩ ⟨Nat.le_of_ble_eq_true rfl, Nat.le_of_ble_eq_true rfl⟩ ⟨by first | exact Nat.le_of_ble_eq_true rfl | (simp only [rm_X0_trees_a, rm_X1_trees_a]; omega), by first | exact Nat.le_of_ble_eq_true rfl | (simp only [rm_X0_trees_a, rm_X1_trees_a]; omega)⟩ dX0_trees_4 (Nat.le_of_ble_eq_true rfl) rfl rfl) (fun _ H1_ hk_ hp_ hd_ => fr_sel (ws := [oC h ad sn hsh, aJ G ou 1 ov]) (wc := [oC h ad sn hsh]) (ws' := [oC h ad sn hsh, aJ G ou 1 ov]) [0] [(true, 0), (false, 1)] rfl rfl (by decide) hP hD hk_ hF_1 hp_ hd_) (fun ce9 q9 u_1 H locs h_1 hP hD hS hce9 hcv9 hcl9 => ?_)
  have hP : va_P G.1 vwCl [oC h ad sn hsh, aJ G ou 1 ov] _ := hP
  have hD : va_D A [oC h ad sn hsh, aJ G ou 1 ov] := hD
  refine vx_catch (own := "CrumbPicturesLaw") (name := "java/lang/IllegalArgumentException") hown [] ⟨0, 9, 12, 15⟩ [] htab (pass0) (by decide) (by decide) (hts _ q1355) (hE.nb q849 rfl) hce9 hcv9 hcl9 ?_
  refine W.eq (g2 := F0 m 12 ls [.ref q9]) rfl ?_
  refine lv_astore_n (lv' := [(3, .ref q9), (0, .ref h), (1, .int t), (2, .ref ou)]) hx hb dX0_trees_12 rfl hl (by decide) rfl (fun ls hl => ?_)
  refine lv_iconst (v := nI 1) hx hb dX0_trees_13 (by decide) ?_
  rw [hQQ]
  exact vx_ret (rt_i hx hb hr hlk  ((())) dX0_trees_14 hP hD hS (by first | exact Nat.le_of_ble_eq_true rfl | (simp only [rm_X0_trees_a, rm_X1_trees_a]; omega) | omega) (by first | exact Nat.le_of_ble_eq_true rfl | (simp only [rm_X0_trees_a, rm_X1_trees_a]; omega) | omega) (by rfl))
def rm_X0_treesFromBelow_a : Room := ({ frames := 12, cells := 1, slots := 6, locals := 201 } : Room)
set_option maxHeartbeats 400000 in
set_option maxRecDepth 100000 in
theorem t_X0_treesFromBelow_a (l : Launch) (G : GG) (b0 sz : Nat) (h : Nat) (ad : Nat → Nat) (sn : Value) (hsh : Int64) (t : Int32) (ou : Nat) (ov : Nat → Int64) (htr : l.stackTraces = false) (htt : isSh t = false) : CTW l yX0_treesFromBelow cX0_treesFromBelow 4 (some FieldType.int) [(0, 9, 12, 15)] (rm_X0_treesFromBelow_a) G b0 [.ref h, .int t, .ref ou] [oC h ad sn hsh, aJ G ou 1 ov] sz (Ri G (fun (r_ : Int32) (_ : Unit) => r_ = nI 1) (fun (_ : Unit) => [oC h ad sn hsh, aJ G ou 1 ov])) := by
  refine CTW.go (by decide) (Nat.le_of_ble_eq_true rfl) (fun p e s m below meth c A ls AR QQ hx hb hr hlk hml hown hnm hts hE hA hAb hsz hP hD hS hl htab hQQ => ?_)
  have hK := hE.1
  have hown : s.vm.findClass RX0 = some m.cls := hown
  have hl : lv_has ls 4 [(0, .ref h), (1, .int t), (2, .ref ou)] := hl
  clear hsz
  refine lv_aload_n hx hb dX0_treesFromBelow_0 rfl (lv_at hl 2 rfl) ?_
  refine lv_iconst (v := nI 0) hx hb dX0_treesFromBelow_1 (by decide) ?_
  refine lv_aload_n hx hb dX0_treesFromBelow_2 rfl (lv_at hl 0 rfl) ?_
  refine lv_iload_n hx hb dX0_treesFromBelow_3 rfl (lv_at hl 1 rfl) ?_
  have hF_1 := fr_free (wc := [oC h ad sn hsh]) [0] rfl hA hS hD
  refine fin_x (ws' := (fun (_ : Unit) => [oC h ad sn hsh, aJ G ou 1 ov])) hS hF_1 (run_VX (As := [.int t]) (rest := [.int (nI 0), .ref ou]) (n9 := 1) hx hb hml hown hts hE hAb hl.1 hS hP hD [0] rfl (by decide) (t_X1_treesFromBelow_a l G b0 _ h ad sn hsh t (by exact htr) (by exact htt)) (lw_V q1613 q1614 q1615 q106 q1616) 0 rfl rfl ⟨rfl, by decide, by decide, by decide +kernel⟩ ⟨Nat.le_of_ble_eq_true rfl, Nat.le_of_ble_eq_true rfl⟩ ⟨by first | exact Nat.le_of_ble_eq_true rfl | (simp only [rm_X0_treesFromBelow_a, rm_X1_treesFromBelow_a]; omega), by first | exact Nat.le_of_ble_eq_true rfl | (simp only [rm_X0_treesFromBelow_a, rm_X1_treesFromBelow_a]; omega)⟩ dX0_treesFromBelow_4 (Nat.le_of_ble_eq_true rfl) rfl rfl) (fun _ H1_ hk_ hp_ hd_ => fr_sel (ws := [oC h ad sn hsh, aJ G ou 1 ov]) (wc := [oC h ad sn hsh]) (ws' := [oC h ad sn hsh, aJ G ou 1 ov]) [0] [(true, 0), (false, 1)] rfl rfl (by decide) hP hD hk_ hF_1 hp_ hd_) (fun ce9 q9 u_1 H locs h_1 hP hD hS hce9 hcv9 hcl9 => ?_)
  have hP : va_P G.1 vwCl [oC h ad sn hsh, aJ G ou 1 ov] _ := hP
  have hD : va_D A [oC h ad sn hsh, aJ G ou 1 ov] := hD
  refine vx_catch (own := "CrumbPicturesLaw") (name := "java/lang/IllegalArgumentException") hown [] ⟨0, 9, 12, 15⟩ [] htab (pass0) (by decide) (by decide) (hts _ q1355) (hE.nb q849 rfl) hce9 hcv9 hcl9 ?_
  refine W.eq (g2 := F0 m 12 ls [.ref q9]) rfl ?_
  refine lv_astore_n (lv' := [(3, .ref q9), (0, .ref h), (1, .int t), (2, .ref ou)]) hx hb dX0_treesFromBelow_12 rfl hl (by decide) rfl (fun ls hl => ?_)
  refine lv_iconst (v := nI 1) hx hb dX0_treesFromBelow_13 (by decide) ?_
  rw [hQQ]
  exact vx_ret (rt_i hx hb hr hlk  ((())) dX0_treesFromBelow_14 hP hD hS (by first | exact Nat.le_of_ble_eq_true rfl | (simp only [rm_X0_treesFromBelow_a, rm_X1_treesFromBelow_a]; omega) | omega) (by first | exact Nat.le_of_ble_eq_true rfl | (simp only [rm_X0_treesFromBelow_a, rm_X1_treesFromBelow_a]; omega) | omega) (by rfl))
def rm_X0_codeLengthWithout_a : Room := ({ frames := 12, cells := 1, slots := 6, locals := 201 } : Room)
set_option maxHeartbeats 400000 in
set_option maxRecDepth 100000 in
theorem t_X0_codeLengthWithout_a (l : Launch) (G : GG) (b0 sz : Nat) (h : Nat) (ad : Nat → Nat) (sn : Value) (hsh : Int64) (t : Int32) (ou : Nat) (ov : Nat → Int64) (htr : l.stackTraces = false) (htt : isSh t = false) : CTW l yX0_codeLengthWithout cX0_codeLengthWithout 4 (some FieldType.int) [(0, 9, 12, 15)] (rm_X0_codeLengthWithout_a) G b0 [.ref h, .int t, .ref ou] [oC h ad sn hsh, aJ G ou 1 ov] sz (Ri G (fun (r_ : Int32) (_ : Unit) => r_ = nI 1) (fun (_ : Unit) => [oC h ad sn hsh, aJ G ou 1 ov])) := by
  refine CTW.go (by decide) (Nat.le_of_ble_eq_true rfl) (fun p e s m below meth c A ls AR QQ hx hb hr hlk hml hown hnm hts hE hA hAb hsz hP hD hS hl htab hQQ => ?_)
  have hK := hE.1
  have hown : s.vm.findClass RX0 = some m.cls := hown
  have hl : lv_has ls 4 [(0, .ref h), (1, .int t), (2, .ref ou)] := hl
  clear hsz
  refine lv_aload_n hx hb dX0_codeLengthWithout_0 rfl (lv_at hl 2 rfl) ?_
  refine lv_iconst (v := nI 0) hx hb dX0_codeLengthWithout_1 (by decide) ?_
  refine lv_aload_n hx hb dX0_codeLengthWithout_2 rfl (lv_at hl 0 rfl) ?_
  refine lv_iload_n hx hb dX0_codeLengthWithout_3 rfl (lv_at hl 1 rfl) ?_
  have hF_1 := fr_free (wc := [oC h ad sn hsh]) [0] rfl hA hS hD
  refine fin_x (ws' := (fun (_ : Unit) => [oC h ad sn hsh, aJ G ou 1 ov])) hS hF_1 (run_VX (As := [.int t]) (rest := [.int (nI 0), .ref ou]) (n9 := 1) hx hb hml hown hts hE hAb hl.1 hS hP hD [0] rfl (by decide) (t_X1_codeLengthWithout_a l G b0 _ h ad sn hsh t (by exact htr) (by exact htt)) (lw_V q1657 q1658 q1659 q106 q1660) 0 rfl rfl ⟨rfl, by decide, by decide, by decide +kernel⟩ ⟨Nat.le_of_ble_eq_true rfl, Nat.le_of_ble_eq_true rfl⟩ ⟨by first | exact Nat.le_of_ble_eq_true rfl | (simp only [rm_X0_codeLengthWithout_a, rm_X1_codeLengthWithout_a]; omega), by first | exact Nat.le_of_ble_eq_true rfl | (simp only [rm_X0_codeLengthWithout_a, rm_X1_codeLengthWithout_a]; omega)⟩ dX0_codeLengthWithout_4 (Nat.le_of_ble_eq_true rfl) rfl rfl) (fun _ H1_ hk_ hp_ hd_ => fr_sel (ws := [oC h ad sn hsh, aJ G ou 1 ov]) (wc := [oC h ad sn hsh]) (ws' := [oC h ad sn hsh, aJ G ou 1 ov]) [0] [(true, 0), (false, 1)] rfl rfl (by decide) hP hD hk_ hF_1 hp_ hd_) (fun ce9 q9 u_1 H locs h_1 hP hD hS hce9 hcv9 hcl9 => ?_)
  have hP : va_P G.1 vwCl [oC h ad sn hsh, aJ G ou 1 ov] _ := hP
  have hD : va_D A [oC h ad sn hsh, aJ G ou 1 ov] := hD
  refine vx_catch (own := "CrumbPicturesLaw") (name := "java/lang/IllegalArgumentException") hown [] ⟨0, 9, 12, 15⟩ [] htab (pass0) (by decide) (by decide) (hts _ q1355) (hE.nb q849 rfl) hce9 hcv9 hcl9 ?_
  refine W.eq (g2 := F0 m 12 ls [.ref q9]) rfl ?_
  refine lv_astore_n (lv' := [(3, .ref q9), (0, .ref h), (1, .int t), (2, .ref ou)]) hx hb dX0_codeLengthWithout_12 rfl hl (by decide) rfl (fun ls hl => ?_)
  refine lv_iconst (v := nI 1) hx hb dX0_codeLengthWithout_13 (by decide) ?_
  rw [hQQ]
  exact vx_ret (rt_i hx hb hr hlk  ((())) dX0_codeLengthWithout_14 hP hD hS (by first | exact Nat.le_of_ble_eq_true rfl | (simp only [rm_X0_codeLengthWithout_a, rm_X1_codeLengthWithout_a]; omega) | omega) (by first | exact Nat.le_of_ble_eq_true rfl | (simp only [rm_X0_codeLengthWithout_a, rm_X1_codeLengthWithout_a]; omega) | omega) (by rfl))
def rm_X0_setLevels_a : Room := ({ frames := 12, cells := 1, slots := 6, locals := 201 } : Room)
set_option maxHeartbeats 400000 in
set_option maxRecDepth 100000 in
theorem t_X0_setLevels_a (l : Launch) (G : GG) (b0 sz : Nat) (h : Nat) (ad : Nat → Nat) (sn : Value) (hsh : Int64) (t : Int32) (ou : Nat) (ov : Nat → Int64) (htr : l.stackTraces = false) (htt : inB t (nI 1) (nI 3) = false) : CTW l yX0_setLevels cX0_setLevels 4 (some FieldType.int) [(0, 9, 12, 15)] (rm_X0_setLevels_a) G b0 [.ref h, .int t, .ref ou] [oC h ad sn hsh, aJ G ou 1 ov] sz (Ri G (fun (r_ : Int32) (_ : Unit) => r_ = nI 1) (fun (_ : Unit) => [oC h ad sn hsh, aJ G ou 1 ov])) := by
  refine CTW.go (by decide) (Nat.le_of_ble_eq_true rfl) (fun p e s m below meth c A ls AR QQ hx hb hr hlk hml hown hnm hts hE hA hAb hsz hP hD hS hl htab hQQ => ?_)
  have hK := hE.1
  have hown : s.vm.findClass RX0 = some m.cls := hown
  have hl : lv_has ls 4 [(0, .ref h), (1, .int t), (2, .ref ou)] := hl
  clear hsz
  refine lv_aload_n hx hb dX0_setLevels_0 rfl (lv_at hl 2 rfl) ?_
  refine lv_iconst (v := nI 0) hx hb dX0_setLevels_1 (by decide) ?_
  refine lv_aload_n hx hb dX0_setLevels_2 rfl (lv_at hl 0 rfl) ?_
  refine lv_iload_n hx hb dX0_setLevels_3 rfl (lv_at hl 1 rfl) ?_
  have hF_1 := fr_free (wc := [oC h ad sn hsh]) [0] rfl hA hS hD
  refine fin_x (ws' := (fun (_ : Unit) => [oC h ad sn hsh, aJ G ou 1 ov])) hS hF_1 (run_VX (As := [.int t]) (rest := [.int (nI 0), .ref ou]) (n9 := 1) hx hb hml hown hts hE hAb hl.1 hS hP hD [0] rfl (by decide) (t_X1_setLevels_a l G b0 _ h ad sn hsh t (by exact htr) (by exact htt)) (lw_V q1437 q1438 q1439 q106 q1440) 0 rfl rfl ⟨rfl, by decide, by decide, by decide +kernel⟩ ⟨Nat.le_of_ble_eq_true rfl, Nat.le_of_ble_eq_true rfl⟩ ⟨by first | exact Nat.le_of_ble_eq_true rfl | (simp only [rm_X0_setLevels_a, rm_X1_setLevels_a]; omega), by first | exact Nat.le_of_ble_eq_true rfl | (simp only [rm_X0_setLevels_a, rm_X1_setLevels_a]; omega)⟩ dX0_setLevels_4 (Nat.le_of_ble_eq_true rfl) rfl rfl) (fun _ H1_ hk_ hp_ hd_ => fr_sel (ws := [oC h ad sn hsh, aJ G ou 1 ov]) (wc := [oC h ad sn hsh]) (ws' := [oC h ad sn hsh, aJ G ou 1 ov]) [0] [(true, 0), (false, 1)] rfl rfl (by decide) hP hD hk_ hF_1 hp_ hd_) (fun ce9 q9 u_1 H locs h_1 hP hD hS hce9 hcv9 hcl9 => ?_)
  have hP : va_P G.1 vwCl [oC h ad sn hsh, aJ G ou 1 ov] _ := hP
  have hD : va_D A [oC h ad sn hsh, aJ G ou 1 ov] := hD
  refine vx_catch (own := "CrumbPicturesLaw") (name := "java/lang/IllegalArgumentException") hown [] ⟨0, 9, 12, 15⟩ [] htab (pass0) (by decide) (by decide) (hts _ q1355) (hE.nb q849 rfl) hce9 hcv9 hcl9 ?_
  refine W.eq (g2 := F0 m 12 ls [.ref q9]) rfl ?_
  refine lv_astore_n (lv' := [(3, .ref q9), (0, .ref h), (1, .int t), (2, .ref ou)]) hx hb dX0_setLevels_12 rfl hl (by decide) rfl (fun ls hl => ?_)
  refine lv_iconst (v := nI 1) hx hb dX0_setLevels_13 (by decide) ?_
  rw [hQQ]
  exact vx_ret (rt_i hx hb hr hlk  ((())) dX0_setLevels_14 hP hD hS (by first | exact Nat.le_of_ble_eq_true rfl | (simp only [rm_X0_setLevels_a, rm_X1_setLevels_a]; omega) | omega) (by first | exact Nat.le_of_ble_eq_true rfl | (simp only [rm_X0_setLevels_a, rm_X1_setLevels_a]; omega) | omega) (by rfl))
def rm_X0_codeLengthWith_a : Room := ({ frames := 12, cells := 1, slots := 6, locals := 201 } : Room)
set_option maxHeartbeats 400000 in
set_option maxRecDepth 100000 in
theorem t_X0_codeLengthWith_a (l : Launch) (G : GG) (b0 sz : Nat) (h : Nat) (ad : Nat → Nat) (sn : Value) (hsh : Int64) (t : Int32) (ou : Nat) (ov : Nat → Int64) (htr : l.stackTraces = false) (htt : inB t (nI 1) (nI 3) = false) : CTW l yX0_codeLengthWith cX0_codeLengthWith 4 (some FieldType.int) [(0, 9, 12, 15)] (rm_X0_codeLengthWith_a) G b0 [.ref h, .int t, .ref ou] [oC h ad sn hsh, aJ G ou 1 ov] sz (Ri G (fun (r_ : Int32) (_ : Unit) => r_ = nI 1) (fun (_ : Unit) => [oC h ad sn hsh, aJ G ou 1 ov])) := by
  refine CTW.go (by decide) (Nat.le_of_ble_eq_true rfl) (fun p e s m below meth c A ls AR QQ hx hb hr hlk hml hown hnm hts hE hA hAb hsz hP hD hS hl htab hQQ => ?_)
  have hK := hE.1
  have hown : s.vm.findClass RX0 = some m.cls := hown
  have hl : lv_has ls 4 [(0, .ref h), (1, .int t), (2, .ref ou)] := hl
  clear hsz
  refine lv_aload_n hx hb dX0_codeLengthWith_0 rfl (lv_at hl 2 rfl) ?_
  refine lv_iconst (v := nI 0) hx hb dX0_codeLengthWith_1 (by decide) ?_
  refine lv_aload_n hx hb dX0_codeLengthWith_2 rfl (lv_at hl 0 rfl) ?_
  refine lv_iload_n hx hb dX0_codeLengthWith_3 rfl (lv_at hl 1 rfl) ?_
  have hF_1 := fr_free (wc := [oC h ad sn hsh]) [0] rfl hA hS hD
  refine fin_x (ws' := (fun (_ : Unit) => [oC h ad sn hsh, aJ G ou 1 ov])) hS hF_1 (run_VX (As := [.int t]) (rest := [.int (nI 0), .ref ou]) (n9 := 1) hx hb hml hown hts hE hAb hl.1 hS hP hD [0] rfl (by decide) (t_X1_codeLengthWith_a l G b0 _ h ad sn hsh t (by exact htr) (by exact htt)) (lw_V q1650 q1651 q1652 q106 q1653) 0 rfl rfl ⟨rfl, by decide, by decide, by decide +kernel⟩ ⟨Nat.le_of_ble_eq_true rfl, Nat.le_of_ble_eq_true rfl⟩ ⟨by first | exact Nat.le_of_ble_eq_true rfl | (simp only [rm_X0_codeLengthWith_a, rm_X1_codeLengthWith_a]; omega), by first | exact Nat.le_of_ble_eq_true rfl | (simp only [rm_X0_codeLengthWith_a, rm_X1_codeLengthWith_a]; omega)⟩ dX0_codeLengthWith_4 (Nat.le_of_ble_eq_true rfl) rfl rfl) (fun _ H1_ hk_ hp_ hd_ => fr_sel (ws := [oC h ad sn hsh, aJ G ou 1 ov]) (wc := [oC h ad sn hsh]) (ws' := [oC h ad sn hsh, aJ G ou 1 ov]) [0] [(true, 0), (false, 1)] rfl rfl (by decide) hP hD hk_ hF_1 hp_ hd_) (fun ce9 q9 u_1 H locs h_1 hP hD hS hce9 hcv9 hcl9 => ?_)
  have hP : va_P G.1 vwCl [oC h ad sn hsh, aJ G ou 1 ov] _ := hP
  have hD : va_D A [oC h ad sn hsh, aJ G ou 1 ov] := hD
  refine vx_catch (own := "CrumbPicturesLaw") (name := "java/lang/IllegalArgumentException") hown [] ⟨0, 9, 12, 15⟩ [] htab (pass0) (by decide) (by decide) (hts _ q1355) (hE.nb q849 rfl) hce9 hcv9 hcl9 ?_
  refine W.eq (g2 := F0 m 12 ls [.ref q9]) rfl ?_
  refine lv_astore_n (lv' := [(3, .ref q9), (0, .ref h), (1, .int t), (2, .ref ou)]) hx hb dX0_codeLengthWith_12 rfl hl (by decide) rfl (fun ls hl => ?_)
  refine lv_iconst (v := nI 1) hx hb dX0_codeLengthWith_13 (by decide) ?_
  rw [hQQ]
  exact vx_ret (rt_i hx hb hr hlk  ((())) dX0_codeLengthWith_14 hP hD hS (by first | exact Nat.le_of_ble_eq_true rfl | (simp only [rm_X0_codeLengthWith_a, rm_X1_codeLengthWith_a]; omega) | omega) (by first | exact Nat.le_of_ble_eq_true rfl | (simp only [rm_X0_codeLengthWith_a, rm_X1_codeLengthWith_a]; omega) | omega) (by rfl))
def rm_X0_energy_a : Room := ({ frames := 11, cells := 1, slots := 6, locals := 181 } : Room)
set_option maxHeartbeats 400000 in
set_option maxRecDepth 100000 in
theorem t_X0_energy_a (l : Launch) (G : GG) (b0 sz : Nat) (h : Nat) (ad : Nat → Nat) (sn : Value) (hsh : Int64) (t : Int32) (ou : Nat) (ov : Nat → Int64) (htr : l.stackTraces = false) (htt : inB t (nI 0) (nI 9) = false) : CTW l yX0_energy cX0_energy 4 (some FieldType.int) [(0, 9, 12, 15)] (rm_X0_energy_a) G b0 [.ref h, .int t, .ref ou] [oC h ad sn hsh, aJ G ou 1 ov] sz (Ri G (fun (r_ : Int32) (_ : Unit) => r_ = nI 1) (fun (_ : Unit) => [oC h ad sn hsh, aJ G ou 1 ov])) := by
  refine CTW.go (by decide) (Nat.le_of_ble_eq_true rfl) (fun p e s m below meth c A ls AR QQ hx hb hr hlk hml hown hnm hts hE hA hAb hsz hP hD hS hl htab hQQ => ?_)
  have hK := hE.1
  have hown : s.vm.findClass RX0 = some m.cls := hown
  have hl : lv_has ls 4 [(0, .ref h), (1, .int t), (2, .ref ou)] := hl
  clear hsz
  refine lv_aload_n hx hb dX0_energy_0 rfl (lv_at hl 2 rfl) ?_
  refine lv_iconst (v := nI 0) hx hb dX0_energy_1 (by decide) ?_
  refine lv_aload_n hx hb dX0_energy_2 rfl (lv_at hl 0 rfl) ?_
  refine lv_iload_n hx hb dX0_energy_3 rfl (lv_at hl 1 rfl) ?_
  have hF_1 := fr_free (wc := [oC h ad sn hsh]) [0] rfl hA hS hD
  refine fin_x (ws' := (fun (_ : Unit) => [oC h ad sn hsh, aJ G ou 1 ov])) hS hF_1 (run_VX (As := [.int t]) (rest := [.int (nI 0), .ref ou]) (n9 := 1) hx hb hml hown hts hE hAb hl.1 hS hP hD [0] rfl (by decide) (t_X1_energy_a l G b0 _ h ad sn hsh t (by exact htr) (by exact htt)) (lw_V q1550 q1551 q1552 q106 q1553) 0 rfl rfl ⟨rfl, by decide, by decide, by decide +kernel⟩ ⟨Nat.le_of_ble_eq_true rfl, Nat.le_of_ble_eq_true rfl⟩ ⟨by first | exact Nat.le_of_ble_eq_true rfl | (simp only [rm_X0_energy_a, rm_X1_energy_a]; omega), by first | exact Nat.le_of_ble_eq_true rfl | (simp only [rm_X0_energy_a, rm_X1_energy_a]; omega)⟩ dX0_energy_4 (Nat.le_of_ble_eq_true rfl) rfl rfl) (fun _ H1_ hk_ hp_ hd_ => fr_sel (ws := [oC h ad sn hsh, aJ G ou 1 ov]) (wc := [oC h ad sn hsh]) (ws' := [oC h ad sn hsh, aJ G ou 1 ov]) [0] [(true, 0), (false, 1)] rfl rfl (by decide) hP hD hk_ hF_1 hp_ hd_) (fun ce9 q9 u_1 H locs h_1 hP hD hS hce9 hcv9 hcl9 => ?_)
  have hP : va_P G.1 vwCl [oC h ad sn hsh, aJ G ou 1 ov] _ := hP
  have hD : va_D A [oC h ad sn hsh, aJ G ou 1 ov] := hD
  refine vx_catch (own := "CrumbPicturesLaw") (name := "java/lang/IllegalArgumentException") hown [] ⟨0, 9, 12, 15⟩ [] htab (pass0) (by decide) (by decide) (hts _ q1355) (hE.nb q849 rfl) hce9 hcv9 hcl9 ?_
  refine W.eq (g2 := F0 m 12 ls [.ref q9]) rfl ?_
  refine lv_astore_n (lv' := [(3, .ref q9), (0, .ref h), (1, .int t), (2, .ref ou)]) hx hb dX0_energy_12 rfl hl (by decide) rfl (fun ls hl => ?_)
  refine lv_iconst (v := nI 1) hx hb dX0_energy_13 (by decide) ?_
  rw [hQQ]
  exact vx_ret (rt_i hx hb hr hlk  ((())) dX0_energy_14 hP hD hS (by first | exact Nat.le_of_ble_eq_true rfl | (simp only [rm_X0_energy_a, rm_X1_energy_a]; omega) | omega) (by first | exact Nat.le_of_ble_eq_true rfl | (simp only [rm_X0_energy_a, rm_X1_energy_a]; omega) | omega) (by rfl))
def rm_X0_thresholdFor_a : Room := ({ frames := 11, cells := 1, slots := 6, locals := 181 } : Room)
set_option maxHeartbeats 400000 in
set_option maxRecDepth 100000 in
theorem t_X0_thresholdFor_a (l : Launch) (G : GG) (b0 sz : Nat) (h : Nat) (ad : Nat → Nat) (sn : Value) (hsh : Int64) (t : Int32) (ou : Nat) (ov : Nat → Int64) (htr : l.stackTraces = false) (htt : inB t (nI 0) (nI 16320) = false) : CTW l yX0_thresholdFor cX0_thresholdFor 4 (some FieldType.int) [(0, 9, 12, 15)] (rm_X0_thresholdFor_a) G b0 [.ref h, .int t, .ref ou] [oC h ad sn hsh, aJ G ou 1 ov] sz (Ri G (fun (r_ : Int32) (_ : Unit) => r_ = nI 1) (fun (_ : Unit) => [oC h ad sn hsh, aJ G ou 1 ov])) := by
  refine CTW.go (by decide) (Nat.le_of_ble_eq_true rfl) (fun p e s m below meth c A ls AR QQ hx hb hr hlk hml hown hnm hts hE hA hAb hsz hP hD hS hl htab hQQ => ?_)
  have hK := hE.1
  have hown : s.vm.findClass RX0 = some m.cls := hown
  have hl : lv_has ls 4 [(0, .ref h), (1, .int t), (2, .ref ou)] := hl
  clear hsz
  refine lv_aload_n hx hb dX0_thresholdFor_0 rfl (lv_at hl 2 rfl) ?_
  refine lv_iconst (v := nI 0) hx hb dX0_thresholdFor_1 (by decide) ?_
  refine lv_aload_n hx hb dX0_thresholdFor_2 rfl (lv_at hl 0 rfl) ?_
  refine lv_iload_n hx hb dX0_thresholdFor_3 rfl (lv_at hl 1 rfl) ?_
  have hF_1 := fr_free (wc := [oC h ad sn hsh]) [0] rfl hA hS hD
  refine fin_x (ws' := (fun (_ : Unit) => [oC h ad sn hsh, aJ G ou 1 ov])) hS hF_1 (run_VX (As := [.int t]) (rest := [.int (nI 0), .ref ou]) (n9 := 1) hx hb hml hown hts hE hAb hl.1 hS hP hD [0] rfl (by decide) (t_X1_thresholdFor_a l G b0 _ h ad sn hsh t (by exact htr) (by exact htt)) (lw_V q1592 q1593 q1594 q106 q1595) 0 rfl rfl ⟨rfl, by decide, by decide, by decide +kernel⟩ ⟨Nat.le_of_ble_eq_true rfl, Nat.le_of_ble_eq_true rfl⟩ ⟨by first | exact Nat.le_of_ble_eq_true rfl | (simp only [rm_X0_thresholdFor_a, rm_X1_thresholdFor_a]; omega), by first | exact Nat.le_of_ble_eq_true rfl | (simp only [rm_X0_thresholdFor_a, rm_X1_thresholdFor_a]; omega)⟩ dX0_thresholdFor_4 (Nat.le_of_ble_eq_true rfl) rfl rfl) (fun _ H1_ hk_ hp_ hd_ => fr_sel (ws := [oC h ad sn hsh, aJ G ou 1 ov]) (wc := [oC h ad sn hsh]) (ws' := [oC h ad sn hsh, aJ G ou 1 ov]) [0] [(true, 0), (false, 1)] rfl rfl (by decide) hP hD hk_ hF_1 hp_ hd_) (fun ce9 q9 u_1 H locs h_1 hP hD hS hce9 hcv9 hcl9 => ?_)
  have hP : va_P G.1 vwCl [oC h ad sn hsh, aJ G ou 1 ov] _ := hP
  have hD : va_D A [oC h ad sn hsh, aJ G ou 1 ov] := hD
  refine vx_catch (own := "CrumbPicturesLaw") (name := "java/lang/IllegalArgumentException") hown [] ⟨0, 9, 12, 15⟩ [] htab (pass0) (by decide) (by decide) (hts _ q1355) (hE.nb q849 rfl) hce9 hcv9 hcl9 ?_
  refine W.eq (g2 := F0 m 12 ls [.ref q9]) rfl ?_
  refine lv_astore_n (lv' := [(3, .ref q9), (0, .ref h), (1, .int t), (2, .ref ou)]) hx hb dX0_thresholdFor_12 rfl hl (by decide) rfl (fun ls hl => ?_)
  refine lv_iconst (v := nI 1) hx hb dX0_thresholdFor_13 (by decide) ?_
  rw [hQQ]
  exact vx_ret (rt_i hx hb hr hlk  ((())) dX0_thresholdFor_14 hP hD hS (by first | exact Nat.le_of_ble_eq_true rfl | (simp only [rm_X0_thresholdFor_a, rm_X1_thresholdFor_a]; omega) | omega) (by first | exact Nat.le_of_ble_eq_true rfl | (simp only [rm_X0_thresholdFor_a, rm_X1_thresholdFor_a]; omega) | omega) (by rfl))
def rm_X0_costOfPlanes_a : Room := ({ frames := 11, cells := 1, slots := 6, locals := 181 } : Room)
set_option maxHeartbeats 400000 in
set_option maxRecDepth 100000 in
theorem t_X0_costOfPlanes_a (l : Launch) (G : GG) (b0 sz : Nat) (h : Nat) (ad : Nat → Nat) (sn : Value) (hsh : Int64) (t : Int32) (ou : Nat) (ov : Nat → Int64) (htr : l.stackTraces = false) (htt : inB t (nI 0) (nI 7) = false) : CTW l yX0_costOfPlanes cX0_costOfPlanes 4 (some FieldType.int) [(0, 9, 12, 15)] (rm_X0_costOfPlanes_a) G b0 [.ref h, .int t, .ref ou] [oC h ad sn hsh, aJ G ou 1 ov] sz (Ri G (fun (r_ : Int32) (_ : Unit) => r_ = nI 1) (fun (_ : Unit) => [oC h ad sn hsh, aJ G ou 1 ov])) := by
  refine CTW.go (by decide) (Nat.le_of_ble_eq_true rfl) (fun p e s m below meth c A ls AR QQ hx hb hr hlk hml hown hnm hts hE hA hAb hsz hP hD hS hl htab hQQ => ?_)
  have hK := hE.1
  have hown : s.vm.findClass RX0 = some m.cls := hown
  have hl : lv_has ls 4 [(0, .ref h), (1, .int t), (2, .ref ou)] := hl
  clear hsz
  refine lv_aload_n hx hb dX0_costOfPlanes_0 rfl (lv_at hl 2 rfl) ?_
  refine lv_iconst (v := nI 0) hx hb dX0_costOfPlanes_1 (by decide) ?_
  refine lv_aload_n hx hb dX0_costOfPlanes_2 rfl (lv_at hl 0 rfl) ?_
  refine lv_iload_n hx hb dX0_costOfPlanes_3 rfl (lv_at hl 1 rfl) ?_
  have hF_1 := fr_free (wc := [oC h ad sn hsh]) [0] rfl hA hS hD
  refine fin_x (ws' := (fun (_ : Unit) => [oC h ad sn hsh, aJ G ou 1 ov])) hS hF_1 (run_VX (As := [.int t]) (rest := [.int (nI 0), .ref ou]) (n9 := 1) hx hb hml hown hts hE hAb hl.1 hS hP hD [0] rfl (by decide) (t_X1_costOfPlanes_a l G b0 _ h ad sn hsh t (by exact htr) (by exact htt)) (lw_V q1599 q1600 q1601 q106 q1602) 0 rfl rfl ⟨rfl, by decide, by decide, by decide +kernel⟩ ⟨Nat.le_of_ble_eq_true rfl, Nat.le_of_ble_eq_true rfl⟩ ⟨by first | exact Nat.le_of_ble_eq_true rfl | (simp only [rm_X0_costOfPlanes_a, rm_X1_costOfPlanes_a]; omega), by first | exact Nat.le_of_ble_eq_true rfl | (simp only [rm_X0_costOfPlanes_a, rm_X1_costOfPlanes_a]; omega)⟩ dX0_costOfPlanes_4 (Nat.le_of_ble_eq_true rfl) rfl rfl) (fun _ H1_ hk_ hp_ hd_ => fr_sel (ws := [oC h ad sn hsh, aJ G ou 1 ov]) (wc := [oC h ad sn hsh]) (ws' := [oC h ad sn hsh, aJ G ou 1 ov]) [0] [(true, 0), (false, 1)] rfl rfl (by decide) hP hD hk_ hF_1 hp_ hd_) (fun ce9 q9 u_1 H locs h_1 hP hD hS hce9 hcv9 hcl9 => ?_)
  have hP : va_P G.1 vwCl [oC h ad sn hsh, aJ G ou 1 ov] _ := hP
  have hD : va_D A [oC h ad sn hsh, aJ G ou 1 ov] := hD
  refine vx_catch (own := "CrumbPicturesLaw") (name := "java/lang/IllegalArgumentException") hown [] ⟨0, 9, 12, 15⟩ [] htab (pass0) (by decide) (by decide) (hts _ q1355) (hE.nb q849 rfl) hce9 hcv9 hcl9 ?_
  refine W.eq (g2 := F0 m 12 ls [.ref q9]) rfl ?_
  refine lv_astore_n (lv' := [(3, .ref q9), (0, .ref h), (1, .int t), (2, .ref ou)]) hx hb dX0_costOfPlanes_12 rfl hl (by decide) rfl (fun ls hl => ?_)
  refine lv_iconst (v := nI 1) hx hb dX0_costOfPlanes_13 (by decide) ?_
  rw [hQQ]
  exact vx_ret (rt_i hx hb hr hlk  ((())) dX0_costOfPlanes_14 hP hD hS (by first | exact Nat.le_of_ble_eq_true rfl | (simp only [rm_X0_costOfPlanes_a, rm_X1_costOfPlanes_a]; omega) | omega) (by first | exact Nat.le_of_ble_eq_true rfl | (simp only [rm_X0_costOfPlanes_a, rm_X1_costOfPlanes_a]; omega) | omega) (by rfl))
def rm_X0_partByCode_i : Room := ({ frames := 11, cells := 1, slots := 6, locals := 181 } : Room)
set_option maxHeartbeats 400000 in
set_option maxRecDepth 100000 in
theorem t_X0_partByCode_i (l : Launch) (G : GG) (b0 sz : Nat) (h : Nat) (ad : Nat → Nat) (sn : Value) (hsh : Int64) (t : Int32) (ou : Nat) (ov : Nat → Int64) (htr : l.stackTraces = false) (htt : inB t (nI 0) (nI 63) = false) : CTW l yX0_partByCode cX0_partByCode 4 (some FieldType.int) [(0, 9, 12, 13)] (rm_X0_partByCode_i) G b0 [.ref h, .int t, .ref ou] [oC h ad sn hsh, aJ G ou 1 ov] sz (Ri G (fun (r_ : Int32) (_ : Unit) => r_ = nI 1) (fun (_ : Unit) => [oC h ad sn hsh, aJ G ou 1 ov])) := by
  refine CTW.go (by decide) (Nat.le_of_ble_eq_true rfl) (fun p e s m below meth c A ls AR QQ hx hb hr hlk hml hown hnm hts hE hA hAb hsz hP hD hS hl htab hQQ => ?_)
  have hK := hE.1
  have hown : s.vm.findClass RX0 = some m.cls := hown
  have hl : lv_has ls 4 [(0, .ref h), (1, .int t), (2, .ref ou)] := hl
  clear hsz
  refine lv_aload_n hx hb dX0_partByCode_0 rfl (lv_at hl 2 rfl) ?_
  refine lv_iconst (v := nI 0) hx hb dX0_partByCode_1 (by decide) ?_
  refine lv_aload_n hx hb dX0_partByCode_2 rfl (lv_at hl 0 rfl) ?_
  refine lv_iload_n hx hb dX0_partByCode_3 rfl (lv_at hl 1 rfl) ?_
  have hF_1 := fr_free (wc := [oC h ad sn hsh]) [0] rfl hA hS hD
  refine fin_x (ws' := (fun (_ : Unit) => [oC h ad sn hsh, aJ G ou 1 ov])) hS hF_1 (run_VX (As := [.int t]) (rest := [.int (nI 0), .ref ou]) (n9 := 1) hx hb hml hown hts hE hAb hl.1 hS hP hD [0] rfl (by decide) (t_X1_partByCode_i l G b0 _ h ad sn hsh t (by exact htr) (by exact htt)) (lw_V q1636 q1637 q1638 q106 q1639) 0 rfl rfl ⟨rfl, by decide, by decide, by decide +kernel⟩ ⟨Nat.le_of_ble_eq_true rfl, Nat.le_of_ble_eq_true rfl⟩ ⟨by first | exact Nat.le_of_ble_eq_true rfl | (simp only [rm_X0_partByCode_i, rm_X1_partByCode_i]; omega), by first | exact Nat.le_of_ble_eq_true rfl | (simp only [rm_X0_partByCode_i, rm_X1_partByCode_i]; omega)⟩ dX0_partByCode_4 (Nat.le_of_ble_eq_true rfl) rfl rfl) (fun _ H1_ hk_ hp_ hd_ => fr_sel (ws := [oC h ad sn hsh, aJ G ou 1 ov]) (wc := [oC h ad sn hsh]) (ws' := [oC h ad sn hsh, aJ G ou 1 ov]) [0] [(true, 0), (false, 1)] rfl rfl (by decide) hP hD hk_ hF_1 hp_ hd_) (fun ce9 q9 u_1 H locs h_1 hP hD hS hce9 hcv9 hcl9 => ?_)
  have hP : va_P G.1 vwCl [oC h ad sn hsh, aJ G ou 1 ov] _ := hP
  have hD : va_D A [oC h ad sn hsh, aJ G ou 1 ov] := hD
  refine vx_catch (own := "CrumbPicturesLaw") (name := "java/lang/IndexOutOfBoundsException") hown [] ⟨0, 9, 12, 13⟩ [] htab (pass0) (by decide) (by decide) (hts _ q1352) (hE.nb q1112 rfl) hce9 hcv9 hcl9 ?_
  refine W.eq (g2 := F0 m 12 ls [.ref q9]) rfl ?_
  refine lv_astore_n (lv' := [(3, .ref q9), (0, .ref h), (1, .int t), (2, .ref ou)]) hx hb dX0_partByCode_12 rfl hl (by decide) rfl (fun ls hl => ?_)
  refine lv_iconst (v := nI 1) hx hb dX0_partByCode_13 (by decide) ?_
  rw [hQQ]
  exact vx_ret (rt_i hx hb hr hlk  ((())) dX0_partByCode_14 hP hD hS (by first | exact Nat.le_of_ble_eq_true rfl | (simp only [rm_X0_partByCode_i, rm_X1_partByCode_i]; omega) | omega) (by first | exact Nat.le_of_ble_eq_true rfl | (simp only [rm_X0_partByCode_i, rm_X1_partByCode_i]; omega) | omega) (by rfl))
def rm_X0_fillRow_i : Room := ({ frames := 11, cells := 1, slots := 6, locals := 183 } : Room)
set_option maxHeartbeats 400000 in
set_option maxRecDepth 100000 in
theorem t_X0_fillRow_i (l : Launch) (G : GG) (b0 sz : Nat) (h : Nat) (ad : Nat → Nat) (sn : Value) (hsh : Int64) (r t b : Int32) (ou : Nat) (ov : Nat → Int64) (htr : l.stackTraces = false) (hri : inB r (nI 0) (nI 7) = false) : CTW l yX0_fillRow cX0_fillRow 6 (some FieldType.int) [(0, 12, 15, 13), (0, 12, 19, 15), (0, 12, 23, 20)] (rm_X0_fillRow_i) G b0 [.ref h, .int r, .int t, .int b, .ref ou] [oC h ad sn hsh, aJ G ou 1 ov] sz (Ri G (fun (r_ : Int32) (_ : Unit) => r_ = nI 1) (fun (_ : Unit) => [oC h ad sn hsh, aJ G ou 1 ov])) := by
  refine CTW.go (by decide) (Nat.le_of_ble_eq_true rfl) (fun p e s m below meth c A ls AR QQ hx hb hr hlk hml hown hnm hts hE hA hAb hsz hP hD hS hl htab hQQ => ?_)
  have hK := hE.1
  have hown : s.vm.findClass RX0 = some m.cls := hown
  have hl : lv_has ls 6 [(0, .ref h), (1, .int r), (2, .int t), (3, .int b), (4, .ref ou)] := hl
  clear hsz
  refine lv_aload hx hb dX0_fillRow_0 (lv_at hl 4 rfl) ?_
  refine lv_iconst (v := nI 0) hx hb dX0_fillRow_2 (by decide) ?_
  refine lv_aload_n hx hb dX0_fillRow_3 rfl (lv_at hl 0 rfl) ?_
  refine lv_iload_n hx hb dX0_fillRow_4 rfl (lv_at hl 1 rfl) ?_
  refine lv_iload_n hx hb dX0_fillRow_5 rfl (lv_at hl 2 rfl) ?_
  refine lv_iload_n hx hb dX0_fillRow_6 rfl (lv_at hl 3 rfl) ?_
  have hF_1 := fr_free (wc := [oC h ad sn hsh]) [0] rfl hA hS hD
  refine fin_x (ws' := (fun (_ : Unit) => [oC h ad sn hsh, aJ G ou 1 ov])) hS hF_1 (run_VX (As := [.int r, .int t, .int b]) (rest := [.int (nI 0), .ref ou]) (n9 := 3) hx hb hml hown hts hE hAb hl.1 hS hP hD [0] rfl (by decide) (t_X1_fillRow_i l G b0 _ h ad sn hsh r t b (by exact htr) (by exact hri)) (lw_V q1388 q1389 q1390 q106 q1391) 0 rfl rfl ⟨rfl, by decide, by decide, by decide +kernel⟩ ⟨Nat.le_of_ble_eq_true rfl, Nat.le_of_ble_eq_true rfl⟩ ⟨by first | exact Nat.le_of_ble_eq_true rfl | (simp only [rm_X0_fillRow_i, rm_X1_fillRow_i]; omega), by first | exact Nat.le_of_ble_eq_true rfl | (simp only [rm_X0_fillRow_i, rm_X1_fillRow_i]; omega)⟩ dX0_fillRow_7 (Nat.le_of_ble_eq_true rfl) rfl rfl) (fun _ H1_ hk_ hp_ hd_ => fr_sel (ws := [oC h ad sn hsh, aJ G ou 1 ov]) (wc := [oC h ad sn hsh]) (ws' := [oC h ad sn hsh, aJ G ou 1 ov]) [0] [(true, 0), (false, 1)] rfl rfl (by decide) hP hD hk_ hF_1 hp_ hd_) (fun ce9 q9 u_1 H locs h_1 hP hD hS hce9 hcv9 hcl9 => ?_)
  have hP : va_P G.1 vwCl [oC h ad sn hsh, aJ G ou 1 ov] _ := hP
  have hD : va_D A [oC h ad sn hsh, aJ G ou 1 ov] := hD
  refine vx_catch (own := "CrumbPicturesLaw") (name := "java/lang/IndexOutOfBoundsException") hown [] ⟨0, 12, 15, 13⟩ [⟨0, 12, 19, 15⟩, ⟨0, 12, 23, 20⟩] htab (pass0) (by decide) (by decide) (hts _ q1352) (hE.nb q1112 rfl) hce9 hcv9 hcl9 ?_
  refine W.eq (g2 := F0 m 15 ls [.ref q9]) rfl ?_
  refine lv_astore (lv' := [(5, .ref q9), (0, .ref h), (1, .int r), (2, .int t), (3, .int b), (4, .ref ou)]) hx hb dX0_fillRow_15 hl (by decide) rfl (fun ls hl => ?_)
  refine lv_iconst (v := nI 1) hx hb dX0_fillRow_17 (by decide) ?_
  rw [hQQ]
  exact vx_ret (rt_i hx hb hr hlk  ((())) dX0_fillRow_18 hP hD hS (by first | exact Nat.le_of_ble_eq_true rfl | (simp only [rm_X0_fillRow_i, rm_X1_fillRow_i]; omega) | omega) (by first | exact Nat.le_of_ble_eq_true rfl | (simp only [rm_X0_fillRow_i, rm_X1_fillRow_i]; omega) | omega) (by rfl))
def rm_X0_fillRow_a1 : Room := ({ frames := 11, cells := 1, slots := 6, locals := 183 } : Room)
set_option maxHeartbeats 400000 in
set_option maxRecDepth 100000 in
theorem t_X0_fillRow_a1 (l : Launch) (G : GG) (b0 sz : Nat) (h : Nat) (ad : Nat → Nat) (sn : Value) (hsh : Int64) (r t b : Int32) (ou : Nat) (ov : Nat → Int64) (htr : l.stackTraces = false) (hri : inB r (nI 0) (nI 7) = true) (htt : isSh t = false) : CTW l yX0_fillRow cX0_fillRow 6 (some FieldType.int) [(0, 12, 15, 13), (0, 12, 19, 15), (0, 12, 23, 20)] (rm_X0_fillRow_a1) G b0 [.ref h, .int r, .int t, .int b, .ref ou] [oC h ad sn hsh, aJ G ou 1 ov] sz (Ri G (fun (r_ : Int32) (_ : Unit) => r_ = nI 2) (fun (_ : Unit) => [oC h ad sn hsh, aJ G ou 1 ov])) := by
  refine CTW.go (by decide) (Nat.le_of_ble_eq_true rfl) (fun p e s m below meth c A ls AR QQ hx hb hr hlk hml hown hnm hts hE hA hAb hsz hP hD hS hl htab hQQ => ?_)
  have hK := hE.1
  have hown : s.vm.findClass RX0 = some m.cls := hown
  have hl : lv_has ls 6 [(0, .ref h), (1, .int r), (2, .int t), (3, .int b), (4, .ref ou)] := hl
  clear hsz
  refine lv_aload hx hb dX0_fillRow_0 (lv_at hl 4 rfl) ?_
  refine lv_iconst (v := nI 0) hx hb dX0_fillRow_2 (by decide) ?_
  refine lv_aload_n hx hb dX0_fillRow_3 rfl (lv_at hl 0 rfl) ?_
  refine lv_iload_n hx hb dX0_fillRow_4 rfl (lv_at hl 1 rfl) ?_
  refine lv_iload_n hx hb dX0_fillRow_5 rfl (lv_at hl 2 rfl) ?_
  refine lv_iload_n hx hb dX0_fillRow_6 rfl (lv_at hl 3 rfl) ?_
  have hF_1 := fr_free (wc := [oC h ad sn hsh]) [0] rfl hA hS hD
  refine fin_x (ws' := (fun (_ : Unit) => [oC h ad sn hsh, aJ G ou 1 ov])) hS hF_1 (run_VX (As := [.int r, .int t, .int b]) (rest := [.int (nI 0), .ref ou]) (n9 := 3) hx hb hml hown hts hE hAb hl.1 hS hP hD [0] rfl (by decide) (t_X1_fillRow_a1 l G b0 _ h ad sn hsh r t b (by exact htr) (by exact hri) (by exact htt)) (lw_V q1388 q1389 q1390 q106 q1391) 0 rfl rfl ⟨rfl, by decide, by decide, by decide +kernel⟩ ⟨Nat.le_of_ble_eq_true rfl, Nat.le_of_ble_eq_true rfl⟩ ⟨by first | exact Nat.le_of_ble_eq_true rfl | (simp only [rm_X0_fillRow_a1, rm_X1_fillRow_a1]; omega), by first | exact Nat.le_of_ble_eq_true rfl | (simp only [rm_X0_fillRow_a1, rm_X1_fillRow_a1]; omega)⟩ dX0_fillRow_7 (Nat.le_of_ble_eq_true rfl) rfl rfl) (fun _ H1_ hk_ hp_ hd_ => fr_sel (ws := [oC h ad sn hsh, aJ G ou 1 ov]) (wc := [oC h ad sn hsh]) (ws' := [oC h ad sn hsh, aJ G ou 1 ov]) [0] [(true, 0), (false, 1)] rfl rfl (by decide) hP hD hk_ hF_1 hp_ hd_) (fun ce9 q9 u_1 H locs h_1 hP hD hS hce9 hcv9 hcl9 => ?_)
  have hP : va_P G.1 vwCl [oC h ad sn hsh, aJ G ou 1 ov] _ := hP
  have hD : va_D A [oC h ad sn hsh, aJ G ou 1 ov] := hD
  refine vx_catch (own := "CrumbPicturesLaw") (name := "java/lang/IllegalArgumentException") hown [⟨0, 12, 15, 13⟩] ⟨0, 12, 19, 15⟩ [⟨0, 12, 23, 20⟩] htab (pass1 (Or.inr ⟨by decide, _, hts _ q1352, hE.2.2.2.2.2.1.1⟩)) (by decide) (by decide) (hts _ q1355) (hE.nb q849 rfl) hce9 hcv9 hcl9 ?_
  refine W.eq (g2 := F0 m 19 ls [.ref q9]) rfl ?_
  refine lv_astore (lv' := [(5, .ref q9), (0, .ref h), (1, .int r), (2, .int t), (3, .int b), (4, .ref ou)]) hx hb dX0_fillRow_19 hl (by decide) rfl (fun ls hl => ?_)
  refine lv_iconst (v := nI 2) hx hb dX0_fillRow_21 (by decide) ?_
  rw [hQQ]
  exact vx_ret (rt_i hx hb hr hlk  ((())) dX0_fillRow_22 hP hD hS (by first | exact Nat.le_of_ble_eq_true rfl | (simp only [rm_X0_fillRow_a1, rm_X1_fillRow_a1]; omega) | omega) (by first | exact Nat.le_of_ble_eq_true rfl | (simp only [rm_X0_fillRow_a1, rm_X1_fillRow_a1]; omega) | omega) (by rfl))
def rm_X0_fillRow_a2 : Room := ({ frames := 11, cells := 1, slots := 6, locals := 183 } : Room)
set_option maxHeartbeats 400000 in
set_option maxRecDepth 100000 in
theorem t_X0_fillRow_a2 (l : Launch) (G : GG) (b0 sz : Nat) (h : Nat) (ad : Nat → Nat) (sn : Value) (hsh : Int64) (r t b : Int32) (ou : Nat) (ov : Nat → Int64) (htr : l.stackTraces = false) (hri : inB r (nI 0) (nI 7) = true) (htt : isSh t = true) (hby : inB b (-36) (nI 36) = false) : CTW l yX0_fillRow cX0_fillRow 6 (some FieldType.int) [(0, 12, 15, 13), (0, 12, 19, 15), (0, 12, 23, 20)] (rm_X0_fillRow_a2) G b0 [.ref h, .int r, .int t, .int b, .ref ou] [oC h ad sn hsh, aJ G ou 1 ov] sz (Ri G (fun (r_ : Int32) (_ : Unit) => r_ = nI 2) (fun (_ : Unit) => [oC h ad sn hsh, aJ G ou 1 ov])) := by
  refine CTW.go (by decide) (Nat.le_of_ble_eq_true rfl) (fun p e s m below meth c A ls AR QQ hx hb hr hlk hml hown hnm hts hE hA hAb hsz hP hD hS hl htab hQQ => ?_)
  have hK := hE.1
  have hown : s.vm.findClass RX0 = some m.cls := hown
  have hl : lv_has ls 6 [(0, .ref h), (1, .int r), (2, .int t), (3, .int b), (4, .ref ou)] := hl
  clear hsz
  refine lv_aload hx hb dX0_fillRow_0 (lv_at hl 4 rfl) ?_
  refine lv_iconst (v := nI 0) hx hb dX0_fillRow_2 (by decide) ?_
  refine lv_aload_n hx hb dX0_fillRow_3 rfl (lv_at hl 0 rfl) ?_
  refine lv_iload_n hx hb dX0_fillRow_4 rfl (lv_at hl 1 rfl) ?_
  refine lv_iload_n hx hb dX0_fillRow_5 rfl (lv_at hl 2 rfl) ?_
  refine lv_iload_n hx hb dX0_fillRow_6 rfl (lv_at hl 3 rfl) ?_
  have hF_1 := fr_free (wc := [oC h ad sn hsh]) [0] rfl hA hS hD
  refine fin_x (ws' := (fun (_ : Unit) => [oC h ad sn hsh, aJ G ou 1 ov])) hS hF_1 (run_VX (As := [.int r, .int t, .int b]) (rest := [.int (nI 0), .ref ou]) (n9 := 3) hx hb hml hown hts hE hAb hl.1 hS hP hD [0] rfl (by decide) (t_X1_fillRow_a2 l G b0 _ h ad sn hsh r t b (by exact htr) (by exact hri) (by exact htt) (by exact hby)) (lw_V q1388 q1389 q1390 q106 q1391) 0 rfl rfl ⟨rfl, by decide, by decide, by decide +kernel⟩ ⟨Nat.le_of_ble_eq_true rfl, Nat.le_of_ble_eq_true rfl⟩ ⟨by first | exact Nat.le_of_ble_eq_true rfl | (simp only [rm_X0_fillRow_a2, rm_X1_fillRow_a2]; omega), by first | exact Nat.le_of_ble_eq_true rfl | (simp only [rm_X0_fillRow_a2, rm_X1_fillRow_a2]; omega)⟩ dX0_fillRow_7 (Nat.le_of_ble_eq_true rfl) rfl rfl) (fun _ H1_ hk_ hp_ hd_ => fr_sel (ws := [oC h ad sn hsh, aJ G ou 1 ov]) (wc := [oC h ad sn hsh]) (ws' := [oC h ad sn hsh, aJ G ou 1 ov]) [0] [(true, 0), (false, 1)] rfl rfl (by decide) hP hD hk_ hF_1 hp_ hd_) (fun ce9 q9 u_1 H locs h_1 hP hD hS hce9 hcv9 hcl9 => ?_)
  have hP : va_P G.1 vwCl [oC h ad sn hsh, aJ G ou 1 ov] _ := hP
  have hD : va_D A [oC h ad sn hsh, aJ G ou 1 ov] := hD
  refine vx_catch (own := "CrumbPicturesLaw") (name := "java/lang/IllegalArgumentException") hown [⟨0, 12, 15, 13⟩] ⟨0, 12, 19, 15⟩ [⟨0, 12, 23, 20⟩] htab (pass1 (Or.inr ⟨by decide, _, hts _ q1352, hE.2.2.2.2.2.1.1⟩)) (by decide) (by decide) (hts _ q1355) (hE.nb q849 rfl) hce9 hcv9 hcl9 ?_
  refine W.eq (g2 := F0 m 19 ls [.ref q9]) rfl ?_
  refine lv_astore (lv' := [(5, .ref q9), (0, .ref h), (1, .int r), (2, .int t), (3, .int b), (4, .ref ou)]) hx hb dX0_fillRow_19 hl (by decide) rfl (fun ls hl => ?_)
  refine lv_iconst (v := nI 2) hx hb dX0_fillRow_21 (by decide) ?_
  rw [hQQ]
  exact vx_ret (rt_i hx hb hr hlk  ((())) dX0_fillRow_22 hP hD hS (by first | exact Nat.le_of_ble_eq_true rfl | (simp only [rm_X0_fillRow_a2, rm_X1_fillRow_a2]; omega) | omega) (by first | exact Nat.le_of_ble_eq_true rfl | (simp only [rm_X0_fillRow_a2, rm_X1_fillRow_a2]; omega) | omega) (by rfl))
def rm_X0_fillRow_s : Room := ({ frames := 11, cells := 1, slots := 6, locals := 183 } : Room)
set_option maxHeartbeats 400000 in
set_option maxRecDepth 100000 in
theorem t_X0_fillRow_s (l : Launch) (G : GG) (b0 sz : Nat) (h : Nat) (ad : Nat → Nat) (sn : Value) (hsh : Int64) (r t b : Int32) (ou : Nat) (ov : Nat → Int64) (htr : l.stackTraces = false) (hri : inB r (nI 0) (nI 7) = true) (htt : isSh t = true) (hby : inB b (-36) (nI 36) = true) (h3t : isSh (t + nI 7 * b) = false) : CTW l yX0_fillRow cX0_fillRow 6 (some FieldType.int) [(0, 12, 15, 13), (0, 12, 19, 15), (0, 12, 23, 20)] (rm_X0_fillRow_s) G b0 [.ref h, .int r, .int t, .int b, .ref ou] [oC h ad sn hsh, aJ G ou 1 ov] sz (Ri G (fun (r_ : Int32) (_ : Unit) => r_ = nI 3) (fun (_ : Unit) => [oC h ad sn hsh, aJ G ou 1 ov])) := by
  refine CTW.go (by decide) (Nat.le_of_ble_eq_true rfl) (fun p e s m below meth c A ls AR QQ hx hb hr hlk hml hown hnm hts hE hA hAb hsz hP hD hS hl htab hQQ => ?_)
  have hK := hE.1
  have hown : s.vm.findClass RX0 = some m.cls := hown
  have hl : lv_has ls 6 [(0, .ref h), (1, .int r), (2, .int t), (3, .int b), (4, .ref ou)] := hl
  clear hsz
  refine lv_aload hx hb dX0_fillRow_0 (lv_at hl 4 rfl) ?_
  refine lv_iconst (v := nI 0) hx hb dX0_fillRow_2 (by decide) ?_
  refine lv_aload_n hx hb dX0_fillRow_3 rfl (lv_at hl 0 rfl) ?_
  refine lv_iload_n hx hb dX0_fillRow_4 rfl (lv_at hl 1 rfl) ?_
  refine lv_iload_n hx hb dX0_fillRow_5 rfl (lv_at hl 2 rfl) ?_
  refine lv_iload_n hx hb dX0_fillRow_6 rfl (lv_at hl 3 rfl) ?_
  have hF_1 := fr_free (wc := [oC h ad sn hsh]) [0] rfl hA hS hD
  refine fin_x (ws' := (fun (_ : Unit) => [oC h ad sn hsh, aJ G ou 1 ov])) hS hF_1 (run_VX (As := [.int r, .int t, .int b]) (rest := [.int (nI 0), .ref ou]) (n9 := 3) hx hb hml hown hts hE hAb hl.1 hS hP hD [0] rfl (by decide) (t_X1_fillRow_s l G b0 _ h ad sn hsh r t b (by exact htr) (by exact hri) (by exact htt) (by exact hby) (by exact h3t)) (lw_V q1388 q1389 q1390 q106 q1391) 0 rfl rfl ⟨rfl, by decide, by decide, by decide +kernel⟩ ⟨Nat.le_of_ble_eq_true rfl, Nat.le_of_ble_eq_true rfl⟩ ⟨by first | exact Nat.le_of_ble_eq_true rfl | (simp only [rm_X0_fillRow_s, rm_X1_fillRow_s]; omega), by first | exact Nat.le_of_ble_eq_true rfl | (simp only [rm_X0_fillRow_s, rm_X1_fillRow_s]; omega)⟩ dX0_fillRow_7 (Nat.le_of_ble_eq_true rfl) rfl rfl) (fun _ H1_ hk_ hp_ hd_ => fr_sel (ws := [oC h ad sn hsh, aJ G ou 1 ov]) (wc := [oC h ad sn hsh]) (ws' := [oC h ad sn hsh, aJ G ou 1 ov]) [0] [(true, 0), (false, 1)] rfl rfl (by decide) hP hD hk_ hF_1 hp_ hd_) (fun ce9 q9 u_1 H locs h_1 hP hD hS hce9 hcv9 hcl9 => ?_)
  have hP : va_P G.1 vwCl [oC h ad sn hsh, aJ G ou 1 ov] _ := hP
  have hD : va_D A [oC h ad sn hsh, aJ G ou 1 ov] := hD
  refine vx_catch (own := "CrumbPicturesLaw") (name := "java/lang/IllegalStateException") hown [⟨0, 12, 15, 13⟩, ⟨0, 12, 19, 15⟩] ⟨0, 12, 23, 20⟩ [] htab (pass2 (Or.inr ⟨by decide, _, hts _ q1352, hE.2.2.2.2.2.1.2.1⟩) (Or.inr ⟨by decide, _, hts _ q1355, hE.2.2.2.2.2.1.2.2⟩)) (by decide) (by decide) (hts _ q1387) (hE.nb q1397 rfl) hce9 hcv9 hcl9 ?_
  refine W.eq (g2 := F0 m 23 ls [.ref q9]) rfl ?_
  refine lv_astore (lv' := [(5, .ref q9), (0, .ref h), (1, .int r), (2, .int t), (3, .int b), (4, .ref ou)]) hx hb dX0_fillRow_23 hl (by decide) rfl (fun ls hl => ?_)
  refine lv_iconst (v := nI 3) hx hb dX0_fillRow_25 (by decide) ?_
  rw [hQQ]
  exact vx_ret (rt_i hx hb hr hlk  ((())) dX0_fillRow_26 hP hD hS (by first | exact Nat.le_of_ble_eq_true rfl | (simp only [rm_X0_fillRow_s, rm_X1_fillRow_s]; omega) | omega) (by first | exact Nat.le_of_ble_eq_true rfl | (simp only [rm_X0_fillRow_s, rm_X1_fillRow_s]; omega) | omega) (by rfl))
def rm_X0_setPart_a : Room := ({ frames := 11, cells := 1, slots := 6, locals := 184 } : Room)
set_option maxHeartbeats 400000 in
set_option maxRecDepth 100000 in
theorem t_X0_setPart_a (l : Launch) (G : GG) (b0 sz : Nat) (h : Nat) (ad : Nat → Nat) (sn : Value) (hsh : Int64) (r c_ : Nat) (t : Int32) (ou : Nat) (ov : Nat → Int64) (htr : l.stackTraces = false) (hr_ : r < 8) (hc_ : c_ < 8) (htv : inB t (-255) (nI 255) = false) : CTW l yX0_setPart cX0_setPart 6 (some FieldType.int) [(0, 12, 15, 13), (0, 12, 19, 15), (0, 12, 23, 20)] (rm_X0_setPart_a) G b0 [.ref h, .int (nI r), .int (nI c_), .int t, .ref ou] [oC h ad sn hsh, aJ G ou 1 ov] sz (Ri G (fun (r_ : Int32) (_ : Unit) => r_ = nI 2) (fun (_ : Unit) => [oC h ad sn hsh, aJ G ou 1 ov])) := by
  refine CTW.go (by decide) (Nat.le_of_ble_eq_true rfl) (fun p e s m below meth c A ls AR QQ hx hb hr hlk hml hown hnm hts hE hA hAb hsz hP hD hS hl htab hQQ => ?_)
  have hK := hE.1
  have hown : s.vm.findClass RX0 = some m.cls := hown
  have hl : lv_has ls 6 [(0, .ref h), (1, .int (nI r)), (2, .int (nI c_)), (3, .int t), (4, .ref ou)] := hl
  clear hsz
  refine lv_aload hx hb dX0_setPart_0 (lv_at hl 4 rfl) ?_
  refine lv_iconst (v := nI 0) hx hb dX0_setPart_2 (by decide) ?_
  refine lv_aload_n hx hb dX0_setPart_3 rfl (lv_at hl 0 rfl) ?_
  refine lv_iload_n hx hb dX0_setPart_4 rfl (lv_at hl 1 rfl) ?_
  refine lv_iload_n hx hb dX0_setPart_5 rfl (lv_at hl 2 rfl) ?_
  refine lv_iload_n hx hb dX0_setPart_6 rfl (lv_at hl 3 rfl) ?_
  have hF_1 := fr_free (wc := [oC h ad sn hsh]) [0] rfl hA hS hD
  refine fin_x (ws' := (fun (_ : Unit) => [oC h ad sn hsh, aJ G ou 1 ov])) hS hF_1 (run_VX (As := [.int (nI r), .int (nI c_), .int t]) (rest := [.int (nI 0), .ref ou]) (n9 := 3) hx hb hml hown hts hE hAb hl.1 hS hP hD [0] rfl (by decide) (t_X1_setPart_a l G b0 _ h ad sn hsh r c_ t (by exact htr) (by exact hr_) (by exact hc_) (by exact htv)) (lw_V q1417 q1418 q1419 q106 q1420) 0 rfl rfl ⟨rfl, by decide, by decide, by decide +kernel⟩ ⟨Nat.le_of_ble_eq_true rfl, Nat.le_of_ble_eq_true rfl⟩ ⟨by first | exact Nat.le_of_ble_eq_true rfl | (simp only [rm_X0_setPart_a, rm_X1_setPart_a]; omega), by first | exact Nat.le_of_ble_eq_true rfl | (simp only [rm_X0_setPart_a, rm_X1_setPart_a]; omega)⟩ dX0_setPart_7 (Nat.le_of_ble_eq_true rfl) rfl rfl) (fun _ H1_ hk_ hp_ hd_ => fr_sel (ws := [oC h ad sn hsh, aJ G ou 1 ov]) (wc := [oC h ad sn hsh]) (ws' := [oC h ad sn hsh, aJ G ou 1 ov]) [0] [(true, 0), (false, 1)] rfl rfl (by decide) hP hD hk_ hF_1 hp_ hd_) (fun ce9 q9 u_1 H locs h_1 hP hD hS hce9 hcv9 hcl9 => ?_)
  have hP : va_P G.1 vwCl [oC h ad sn hsh, aJ G ou 1 ov] _ := hP
  have hD : va_D A [oC h ad sn hsh, aJ G ou 1 ov] := hD
  refine vx_catch (own := "CrumbPicturesLaw") (name := "java/lang/IllegalArgumentException") hown [⟨0, 12, 15, 13⟩] ⟨0, 12, 19, 15⟩ [⟨0, 12, 23, 20⟩] htab (pass1 (Or.inr ⟨by decide, _, hts _ q1352, hE.2.2.2.2.2.1.1⟩)) (by decide) (by decide) (hts _ q1355) (hE.nb q849 rfl) hce9 hcv9 hcl9 ?_
  refine W.eq (g2 := F0 m 19 ls [.ref q9]) rfl ?_
  refine lv_astore (lv' := [(5, .ref q9), (0, .ref h), (1, .int (nI r)), (2, .int (nI c_)), (3, .int t), (4, .ref ou)]) hx hb dX0_setPart_19 hl (by decide) rfl (fun ls hl => ?_)
  refine lv_iconst (v := nI 2) hx hb dX0_setPart_21 (by decide) ?_
  rw [hQQ]
  exact vx_ret (rt_i hx hb hr hlk  ((())) dX0_setPart_22 hP hD hS (by first | exact Nat.le_of_ble_eq_true rfl | (simp only [rm_X0_setPart_a, rm_X1_setPart_a]; omega) | omega) (by first | exact Nat.le_of_ble_eq_true rfl | (simp only [rm_X0_setPart_a, rm_X1_setPart_a]; omega) | omega) (by rfl))
def rm_X0_setPart_s : Room := ({ frames := 11, cells := 1, slots := 6, locals := 184 } : Room)
set_option maxHeartbeats 400000 in
set_option maxRecDepth 100000 in
theorem t_X0_setPart_s (l : Launch) (G : GG) (b0 sz : Nat) (h : Nat) (ad : Nat → Nat) (sn : Value) (hsh : Int64) (L : Nat) (stp why : Int32) (st : Nat → Int32) (li : Nat → Int32) (pa : Nat → Int32) (ot : Nat → Int32) (rm : Nat → Int32) (r c_ : Nat) (t : Int32) (ou : Nat) (ov : Nat → Int64) (htr : l.stackTraces = false) (hL1 : 1 ≤ L) (hL : L ≤ 3) (hr_ : r < 8) (hc_ : c_ < 8) (htv : inB t (-255) (nI 255) = true) (hcp : allB (shsB (joinP L (upd (splitP st L) (8 * r + c_) t))) 64 = false) : CTW l yX0_setPart cX0_setPart 6 (some FieldType.int) [(0, 12, 15, 13), (0, 12, 19, 15), (0, 12, 23, 20)] (rm_X0_setPart_s) G b0 [.ref h, .int (nI r), .int (nI c_), .int t, .ref ou] [oC h ad sn hsh, oX (ad 1) 1 [.ref (ad 11), .int (nI L), .int stp, .int why], aI G (ad 11) 64 st, oX (ad 3) 5 [.ref (ad 12)], aI G (ad 12) 8 li, aI G (ad 6) 64 pa, aI G (ad 7) 64 ot, aI G (ad 8) 64 rm, aJ G ou 1 ov] sz (Ri G (fun (r_ : Int32) (u : Nat → Int32) => r_ = nI 3) (fun (u : Nat → Int32) => [oC h ad sn hsh, oX (ad 1) 1 [.ref (ad 11), .int (nI L), .int stp, .int why], aI G (ad 11) 64 st, oX (ad 3) 5 [.ref (ad 12)], aI G (ad 12) 8 u, aI G (ad 6) 64 (splitP st L), aI G (ad 7) 64 (upd (splitP st L) (8 * r + c_) t), aI G (ad 8) 64 (joinP L (upd (splitP st L) (8 * r + c_) t)), aJ G ou 1 ov])) := by
  refine CTW.go (by decide) (Nat.le_of_ble_eq_true rfl) (fun p e s m below meth c A ls AR QQ hx hb hr hlk hml hown hnm hts hE hA hAb hsz hP hD hS hl htab hQQ => ?_)
  have hK := hE.1
  have hown : s.vm.findClass RX0 = some m.cls := hown
  have hl : lv_has ls 6 [(0, .ref h), (1, .int (nI r)), (2, .int (nI c_)), (3, .int t), (4, .ref ou)] := hl
  clear hsz
  refine lv_aload hx hb dX0_setPart_0 (lv_at hl 4 rfl) ?_
  refine lv_iconst (v := nI 0) hx hb dX0_setPart_2 (by decide) ?_
  refine lv_aload_n hx hb dX0_setPart_3 rfl (lv_at hl 0 rfl) ?_
  refine lv_iload_n hx hb dX0_setPart_4 rfl (lv_at hl 1 rfl) ?_
  refine lv_iload_n hx hb dX0_setPart_5 rfl (lv_at hl 2 rfl) ?_
  refine lv_iload_n hx hb dX0_setPart_6 rfl (lv_at hl 3 rfl) ?_
  have hF_1 := fr_free (wc := [oC h ad sn hsh, oX (ad 1) 1 [.ref (ad 11), .int (nI L), .int stp, .int why], aI G (ad 11) 64 st, oX (ad 3) 5 [.ref (ad 12)], aI G (ad 12) 8 li, aI G (ad 6) 64 pa, aI G (ad 7) 64 ot, aI G (ad 8) 64 rm]) [0, 1, 2, 3, 4, 5, 6, 7] rfl hA hS hD
  refine fin_x (ws' := (fun (u_1 : Nat → Int32) => [oC h ad sn hsh, oX (ad 1) 1 [.ref (ad 11), .int (nI L), .int stp, .int why], aI G (ad 11) 64 st, oX (ad 3) 5 [.ref (ad 12)], aI G (ad 12) 8 u_1, aI G (ad 6) 64 (splitP st L), aI G (ad 7) 64 (upd (splitP st L) (8 * r + c_) t), aI G (ad 8) 64 (joinP L (upd (splitP st L) (8 * r + c_) t)), aJ G ou 1 ov])) hS hF_1 (run_VX (As := [.int (nI r), .int (nI c_), .int t]) (rest := [.int (nI 0), .ref ou]) (n9 := 3) hx hb hml hown hts hE hAb hl.1 hS hP hD [0, 1, 2, 3, 4, 5, 6, 7] rfl (by decide) (t_X1_setPart_s l G b0 _ h ad sn hsh L stp why st li pa ot rm r c_ t (by exact htr) (by exact hL1) (by exact hL) (by exact hr_) (by exact hc_) (by exact htv) (by exact hcp)) (lw_V q1417 q1418 q1419 q106 q1420) 0 rfl rfl ⟨rfl, by decide, by decide, by decide +kernel⟩ ⟨Nat.le_of_ble_eq_true rfl, Nat.le_of_ble_eq_true rfl⟩ ⟨by first | exact Nat.le_of_ble_eq_true rfl | (simp only [rm_X0_setPart_s, rm_X1_setPart_s]; omega), by first | exact Nat.le_of_ble_eq_true rfl | (simp only [rm_X0_setPart_s, rm_X1_setPart_s]; omega)⟩ dX0_setPart_7 (Nat.le_of_ble_eq_true rfl) rfl rfl) (fun u_1 H1_ hk_ hp_ hd_ => fr_sel (ws := [oC h ad sn hsh, oX (ad 1) 1 [.ref (ad 11), .int (nI L), .int stp, .int why], aI G (ad 11) 64 st, oX (ad 3) 5 [.ref (ad 12)], aI G (ad 12) 8 li, aI G (ad 6) 64 pa, aI G (ad 7) 64 ot, aI G (ad 8) 64 rm, aJ G ou 1 ov]) (wc := [oC h ad sn hsh, oX (ad 1) 1 [.ref (ad 11), .int (nI L), .int stp, .int why], aI G (ad 11) 64 st, oX (ad 3) 5 [.ref (ad 12)], aI G (ad 12) 8 li, aI G (ad 6) 64 pa, aI G (ad 7) 64 ot, aI G (ad 8) 64 rm]) (ws' := [oC h ad sn hsh, oX (ad 1) 1 [.ref (ad 11), .int (nI L), .int stp, .int why], aI G (ad 11) 64 st, oX (ad 3) 5 [.ref (ad 12)], aI G (ad 12) 8 u_1, aI G (ad 6) 64 (splitP st L), aI G (ad 7) 64 (upd (splitP st L) (8 * r + c_) t), aI G (ad 8) 64 (joinP L (upd (splitP st L) (8 * r + c_) t)), aJ G ou 1 ov]) [0, 1, 2, 3, 4, 5, 6, 7] [(true, 0), (true, 1), (true, 2), (true, 3), (true, 4), (true, 5), (true, 6), (true, 7), (false, 8)] rfl rfl (by decide) hP hD hk_ hF_1 hp_ hd_) (fun ce9 q9 u_1 H locs h_1 hP hD hS hce9 hcv9 hcl9 => ?_)
  have hP : va_P G.1 vwCl [oC h ad sn hsh, oX (ad 1) 1 [.ref (ad 11), .int (nI L), .int stp, .int why], aI G (ad 11) 64 st, oX (ad 3) 5 [.ref (ad 12)], aI G (ad 12) 8 u_1, aI G (ad 6) 64 (splitP st L), aI G (ad 7) 64 (upd (splitP st L) (8 * r + c_) t), aI G (ad 8) 64 (joinP L (upd (splitP st L) (8 * r + c_) t)), aJ G ou 1 ov] _ := hP
  have hD : va_D A [oC h ad sn hsh, oX (ad 1) 1 [.ref (ad 11), .int (nI L), .int stp, .int why], aI G (ad 11) 64 st, oX (ad 3) 5 [.ref (ad 12)], aI G (ad 12) 8 u_1, aI G (ad 6) 64 (splitP st L), aI G (ad 7) 64 (upd (splitP st L) (8 * r + c_) t), aI G (ad 8) 64 (joinP L (upd (splitP st L) (8 * r + c_) t)), aJ G ou 1 ov] := hD
  refine vx_catch (own := "CrumbPicturesLaw") (name := "java/lang/IllegalStateException") hown [⟨0, 12, 15, 13⟩, ⟨0, 12, 19, 15⟩] ⟨0, 12, 23, 20⟩ [] htab (pass2 (Or.inr ⟨by decide, _, hts _ q1352, hE.2.2.2.2.2.1.2.1⟩) (Or.inr ⟨by decide, _, hts _ q1355, hE.2.2.2.2.2.1.2.2⟩)) (by decide) (by decide) (hts _ q1387) (hE.nb q1397 rfl) hce9 hcv9 hcl9 ?_
  refine W.eq (g2 := F0 m 23 ls [.ref q9]) rfl ?_
  refine lv_astore (lv' := [(5, .ref q9), (0, .ref h), (1, .int (nI r)), (2, .int (nI c_)), (3, .int t), (4, .ref ou)]) hx hb dX0_setPart_23 hl (by decide) rfl (fun ls hl => ?_)
  refine lv_iconst (v := nI 3) hx hb dX0_setPart_25 (by decide) ?_
  rw [hQQ]
  exact vx_ret (rt_i hx hb hr hlk  u_1 dX0_setPart_26 hP hD hS (by first | exact Nat.le_of_ble_eq_true rfl | (simp only [rm_X0_setPart_s, rm_X1_setPart_s]; omega) | omega) (by first | exact Nat.le_of_ble_eq_true rfl | (simp only [rm_X0_setPart_s, rm_X1_setPart_s]; omega) | omega) (by rfl))
def rm_X0_dropCrumbs_s : Room := ({ frames := 11, cells := 1, slots := 6, locals := 182 } : Room)
set_option maxHeartbeats 400000 in
set_option maxRecDepth 100000 in
theorem t_X0_dropCrumbs_s (l : Launch) (G : GG) (b0 sz : Nat) (h : Nat) (ad : Nat → Nat) (sn : Value) (hsh : Int64) (L : Nat) (stp why : Int32) (st : Nat → Int32) (li : Nat → Int32) (pa : Nat → Int32) (ot : Nat → Int32) (t : Int32) (ou : Nat) (ov : Nat → Int64) (htr : l.stackTraces = false) (hL1 : 1 ≤ L) (hL : L ≤ 3) (htt : isSh t = true) (hcn : cntN (crmB L t (splitP st L)) 64 = 0) : CTW l yX0_dropCrumbs cX0_dropCrumbs 4 (some FieldType.int) [(0, 9, 12, 15), (0, 9, 15, 20)] (rm_X0_dropCrumbs_s) G b0 [.ref h, .int t, .ref ou] [oC h ad sn hsh, oX (ad 1) 1 [.ref (ad 11), .int (nI L), .int stp, .int why], aI G (ad 11) 64 st, oX (ad 3) 5 [.ref (ad 12)], aI G (ad 12) 8 li, aI G (ad 6) 64 pa, aI G (ad 7) 64 ot, aR G (ad 2) 3 (orF ad), oX (ad (15 + L)) 2 [.ref (ad (16 + 3 * L)), .ref (ad (17 + 3 * L)), .ref (ad (18 + 3 * L)), .int (nI 64)], aI G (ad (18 + 3 * L)) 64 (nF (bnT L)), aJ G ou 1 ov] sz (Ri G (fun (r_ : Int32) (u : Nat → Int32) => r_ = nI 2) (fun (u : Nat → Int32) => [oC h ad sn hsh, oX (ad 1) 1 [.ref (ad 11), .int (nI L), .int stp, .int why], aI G (ad 11) 64 st, oX (ad 3) 5 [.ref (ad 12)], aI G (ad 12) 8 u, aI G (ad 6) 64 (splitP st L), aI G (ad 7) 64 (drpA L t (splitP st L)), aR G (ad 2) 3 (orF ad), oX (ad (15 + L)) 2 [.ref (ad (16 + 3 * L)), .ref (ad (17 + 3 * L)), .ref (ad (18 + 3 * L)), .int (nI 64)], aI G (ad (18 + 3 * L)) 64 (nF (bnT L)), aJ G ou 1 ov])) := by
  refine CTW.go (by decide) (Nat.le_of_ble_eq_true rfl) (fun p e s m below meth c A ls AR QQ hx hb hr hlk hml hown hnm hts hE hA hAb hsz hP hD hS hl htab hQQ => ?_)
  have hK := hE.1
  have hown : s.vm.findClass RX0 = some m.cls := hown
  have hl : lv_has ls 4 [(0, .ref h), (1, .int t), (2, .ref ou)] := hl
  clear hsz
  refine lv_aload_n hx hb dX0_dropCrumbs_0 rfl (lv_at hl 2 rfl) ?_
  refine lv_iconst (v := nI 0) hx hb dX0_dropCrumbs_1 (by decide) ?_
  refine lv_aload_n hx hb dX0_dropCrumbs_2 rfl (lv_at hl 0 rfl) ?_
  refine lv_iload_n hx hb dX0_dropCrumbs_3 rfl (lv_at hl 1 rfl) ?_
  have hF_1 := fr_free (wc := [oC h ad sn hsh, oX (ad 1) 1 [.ref (ad 11), .int (nI L), .int stp, .int why], aI G (ad 11) 64 st, oX (ad 3) 5 [.ref (ad 12)], aI G (ad 12) 8 li, aI G (ad 6) 64 pa, aI G (ad 7) 64 ot, aR G (ad 2) 3 (orF ad), oX (ad (15 + L)) 2 [.ref (ad (16 + 3 * L)), .ref (ad (17 + 3 * L)), .ref (ad (18 + 3 * L)), .int (nI 64)], aI G (ad (18 + 3 * L)) 64 (nF (bnT L))]) [0, 1, 2, 3, 4, 5, 6, 7, 8, 9] rfl hA hS hD
  refine fin_x (ws' := (fun (u_1 : Nat → Int32) => [oC h ad sn hsh, oX (ad 1) 1 [.ref (ad 11), .int (nI L), .int stp, .int why], aI G (ad 11) 64 st, oX (ad 3) 5 [.ref (ad 12)], aI G (ad 12) 8 u_1, aI G (ad 6) 64 (splitP st L), aI G (ad 7) 64 (drpA L t (splitP st L)), aR G (ad 2) 3 (orF ad), oX (ad (15 + L)) 2 [.ref (ad (16 + 3 * L)), .ref (ad (17 + 3 * L)), .ref (ad (18 + 3 * L)), .int (nI 64)], aI G (ad (18 + 3 * L)) 64 (nF (bnT L)), aJ G ou 1 ov])) hS hF_1 (run_VX (As := [.int t]) (rest := [.int (nI 0), .ref ou]) (n9 := 1) hx hb hml hown hts hE hAb hl.1 hS hP hD [0, 1, 2, 3, 4, 5, 6, 7, 8, 9] rfl (by decide) (t_X1_dropCrumbs_s l G b0 _ h ad sn hsh L stp why st li pa ot t (by exact htr) (by exact hL1) (by exact hL) (by exact htt) (by exact hcn)) (lw_V q1430 q1431 q1432 q106 q1433) 0 rfl rfl ⟨rfl, by decide, by decide, by decide +kernel⟩ ⟨Nat.le_of_ble_eq_true rfl, Nat.le_of_ble_eq_true rfl⟩ ⟨by first | exact Nat.le_of_ble_eq_true rfl | (simp only [rm_X0_dropCrumbs_s, rm_X1_dropCrumbs_s]; omega), by first | exact Nat.le_of_ble_eq_true rfl | (simp only [rm_X0_dropCrumbs_s, rm_X1_dropCrumbs_s]; omega)⟩ dX0_dropCrumbs_4 (Nat.le_of_ble_eq_true rfl) rfl rfl) (fun u_1 H1_ hk_ hp_ hd_ => fr_sel (ws := [oC h ad sn hsh, oX (ad 1) 1 [.ref (ad 11), .int (nI L), .int stp, .int why], aI G (ad 11) 64 st, oX (ad 3) 5 [.ref (ad 12)], aI G (ad 12) 8 li, aI G (ad 6) 64 pa, aI G (ad 7) 64 ot, aR G (ad 2) 3 (orF ad), oX (ad (15 + L)) 2 [.ref (ad (16 + 3 * L)), .ref (ad (17 + 3 * L)), .ref (ad (18 + 3 * L)), .int (nI 64)], aI G (ad (18 + 3 * L)) 64 (nF (bnT L)), aJ G ou 1 ov]) (wc := [oC h ad sn hsh, oX (ad 1) 1 [.ref (ad 11), .int (nI L), .int stp, .int why], aI G (ad 11) 64 st, oX (ad 3) 5 [.ref (ad 12)], aI G (ad 12) 8 li, aI G (ad 6) 64 pa, aI G (ad 7) 64 ot, aR G (ad 2) 3 (orF ad), oX (ad (15 + L)) 2 [.ref (ad (16 + 3 * L)), .ref (ad (17 + 3 * L)), .ref (ad (18 + 3 * L)), .int (nI 64)], aI G (ad (18 + 3 * L)) 64 (nF (bnT L))]) (ws' := [oC h ad sn hsh, oX (ad 1) 1 [.ref (ad 11), .int (nI L), .int stp, .int why], aI G (ad 11) 64 st, oX (ad 3) 5 [.ref (ad 12)], aI G (ad 12) 8 u_1, aI G (ad 6) 64 (splitP st L), aI G (ad 7) 64 (drpA L t (splitP st L)), aR G (ad 2) 3 (orF ad), oX (ad (15 + L)) 2 [.ref (ad (16 + 3 * L)), .ref (ad (17 + 3 * L)), .ref (ad (18 + 3 * L)), .int (nI 64)], aI G (ad (18 + 3 * L)) 64 (nF (bnT L)), aJ G ou 1 ov]) [0, 1, 2, 3, 4, 5, 6, 7, 8, 9] [(true, 0), (true, 1), (true, 2), (true, 3), (true, 4), (true, 5), (true, 6), (true, 7), (true, 8), (true, 9), (false, 10)] rfl rfl (by decide) hP hD hk_ hF_1 hp_ hd_) (fun ce9 q9 u_1 H locs h_1 hP hD hS hce9 hcv9 hcl9 => ?_)
  have hP : va_P G.1 vwCl [oC h ad sn hsh, oX (ad 1) 1 [.ref (ad 11), .int (nI L), .int stp, .int why], aI G (ad 11) 64 st, oX (ad 3) 5 [.ref (ad 12)], aI G (ad 12) 8 u_1, aI G (ad 6) 64 (splitP st L), aI G (ad 7) 64 (drpA L t (splitP st L)), aR G (ad 2) 3 (orF ad), oX (ad (15 + L)) 2 [.ref (ad (16 + 3 * L)), .ref (ad (17 + 3 * L)), .ref (ad (18 + 3 * L)), .int (nI 64)], aI G (ad (18 + 3 * L)) 64 (nF (bnT L)), aJ G ou 1 ov] _ := hP
  have hD : va_D A [oC h ad sn hsh, oX (ad 1) 1 [.ref (ad 11), .int (nI L), .int stp, .int why], aI G (ad 11) 64 st, oX (ad 3) 5 [.ref (ad 12)], aI G (ad 12) 8 u_1, aI G (ad 6) 64 (splitP st L), aI G (ad 7) 64 (drpA L t (splitP st L)), aR G (ad 2) 3 (orF ad), oX (ad (15 + L)) 2 [.ref (ad (16 + 3 * L)), .ref (ad (17 + 3 * L)), .ref (ad (18 + 3 * L)), .int (nI 64)], aI G (ad (18 + 3 * L)) 64 (nF (bnT L)), aJ G ou 1 ov] := hD
  refine vx_catch (own := "CrumbPicturesLaw") (name := "java/lang/IllegalStateException") hown [⟨0, 9, 12, 15⟩] ⟨0, 9, 15, 20⟩ [] htab (pass1 (Or.inr ⟨by decide, _, hts _ q1355, hE.2.2.2.2.2.1.2.2⟩)) (by decide) (by decide) (hts _ q1387) (hE.nb q1397 rfl) hce9 hcv9 hcl9 ?_
  refine W.eq (g2 := F0 m 15 ls [.ref q9]) rfl ?_
  refine lv_astore_n (lv' := [(3, .ref q9), (0, .ref h), (1, .int t), (2, .ref ou)]) hx hb dX0_dropCrumbs_15 rfl hl (by decide) rfl (fun ls hl => ?_)
  refine lv_iconst (v := nI 2) hx hb dX0_dropCrumbs_16 (by decide) ?_
  rw [hQQ]
  exact vx_ret (rt_i hx hb hr hlk  u_1 dX0_dropCrumbs_17 hP hD hS (by first | exact Nat.le_of_ble_eq_true rfl | (simp only [rm_X0_dropCrumbs_s, rm_X1_dropCrumbs_s]; omega) | omega) (by first | exact Nat.le_of_ble_eq_true rfl | (simp only [rm_X0_dropCrumbs_s, rm_X1_dropCrumbs_s]; omega) | omega) (by rfl))
def rm_X0_append_a : Room := ({ frames := 11, cells := 1, slots := 6, locals := 181 } : Room)
set_option maxHeartbeats 400000 in
set_option maxRecDepth 100000 in
theorem t_X0_append_a (l : Launch) (G : GG) (b0 sz : Nat) (h : Nat) (ad : Nat → Nat) (sn : Value) (hsh : Int64) (t : Int32) (ou : Nat) (ov : Nat → Int64) (htr : l.stackTraces = false) (htt : inB t (nI 33) (nI 126) = false) : CTW l yX0_append cX0_append 4 (some FieldType.int) [(0, 9, 12, 15), (0, 9, 15, 20)] (rm_X0_append_a) G b0 [.ref h, .int t, .ref ou] [oC h ad sn hsh, aJ G ou 1 ov] sz (Ri G (fun (r_ : Int32) (_ : Unit) => r_ = nI 1) (fun (_ : Unit) => [oC h ad sn hsh, aJ G ou 1 ov])) := by
  refine CTW.go (by decide) (Nat.le_of_ble_eq_true rfl) (fun p e s m below meth c A ls AR QQ hx hb hr hlk hml hown hnm hts hE hA hAb hsz hP hD hS hl htab hQQ => ?_)
  have hK := hE.1
  have hown : s.vm.findClass RX0 = some m.cls := hown
  have hl : lv_has ls 4 [(0, .ref h), (1, .int t), (2, .ref ou)] := hl
  clear hsz
  refine lv_aload_n hx hb dX0_append_0 rfl (lv_at hl 2 rfl) ?_
  refine lv_iconst (v := nI 0) hx hb dX0_append_1 (by decide) ?_
  refine lv_aload_n hx hb dX0_append_2 rfl (lv_at hl 0 rfl) ?_
  refine lv_iload_n hx hb dX0_append_3 rfl (lv_at hl 1 rfl) ?_
  have hF_1 := fr_free (wc := [oC h ad sn hsh]) [0] rfl hA hS hD
  refine fin_x (ws' := (fun (_ : Unit) => [oC h ad sn hsh, aJ G ou 1 ov])) hS hF_1 (run_VX (As := [.int t]) (rest := [.int (nI 0), .ref ou]) (n9 := 1) hx hb hml hown hts hE hAb hl.1 hS hP hD [0] rfl (by decide) (t_X1_append_a l G b0 _ h ad sn hsh t (by exact htr) (by exact htt)) (lw_V q1451 q1452 q1453 q106 q1454) 0 rfl rfl ⟨rfl, by decide, by decide, by decide +kernel⟩ ⟨Nat.le_of_ble_eq_true rfl, Nat.le_of_ble_eq_true rfl⟩ ⟨by first | exact Nat.le_of_ble_eq_true rfl | (simp only [rm_X0_append_a, rm_X1_append_a]; omega), by first | exact Nat.le_of_ble_eq_true rfl | (simp only [rm_X0_append_a, rm_X1_append_a]; omega)⟩ dX0_append_4 (Nat.le_of_ble_eq_true rfl) rfl rfl) (fun _ H1_ hk_ hp_ hd_ => fr_sel (ws := [oC h ad sn hsh, aJ G ou 1 ov]) (wc := [oC h ad sn hsh]) (ws' := [oC h ad sn hsh, aJ G ou 1 ov]) [0] [(true, 0), (false, 1)] rfl rfl (by decide) hP hD hk_ hF_1 hp_ hd_) (fun ce9 q9 u_1 H locs h_1 hP hD hS hce9 hcv9 hcl9 => ?_)
  have hP : va_P G.1 vwCl [oC h ad sn hsh, aJ G ou 1 ov] _ := hP
  have hD : va_D A [oC h ad sn hsh, aJ G ou 1 ov] := hD
  refine vx_catch (own := "CrumbPicturesLaw") (name := "java/lang/IllegalArgumentException") hown [] ⟨0, 9, 12, 15⟩ [⟨0, 9, 15, 20⟩] htab (pass0) (by decide) (by decide) (hts _ q1355) (hE.nb q849 rfl) hce9 hcv9 hcl9 ?_
  refine W.eq (g2 := F0 m 12 ls [.ref q9]) rfl ?_
  refine lv_astore_n (lv' := [(3, .ref q9), (0, .ref h), (1, .int t), (2, .ref ou)]) hx hb dX0_append_12 rfl hl (by decide) rfl (fun ls hl => ?_)
  refine lv_iconst (v := nI 1) hx hb dX0_append_13 (by decide) ?_
  rw [hQQ]
  exact vx_ret (rt_i hx hb hr hlk  ((())) dX0_append_14 hP hD hS (by first | exact Nat.le_of_ble_eq_true rfl | (simp only [rm_X0_append_a, rm_X1_append_a]; omega) | omega) (by first | exact Nat.le_of_ble_eq_true rfl | (simp only [rm_X0_append_a, rm_X1_append_a]; omega) | omega) (by rfl))
def rm_X0_append_s : Room := ({ frames := 11, cells := 1, slots := 6, locals := 181 } : Room)
set_option maxHeartbeats 400000 in
set_option maxRecDepth 100000 in
theorem t_X0_append_s (l : Launch) (G : GG) (b0 sz : Nat) (h : Nat) (ad : Nat → Nat) (sn : Value) (hsh : Int64) (cd : Nat) (ml : Bool) (ch : Nat → Nat) (len : Nat) (ou : Nat) (ov : Nat → Int64) (htr : l.stackTraces = false) (hcd : 33 ≤ cd ∧ cd ≤ 126) (hln : len = 60) : CTW l yX0_append cX0_append 4 (some FieldType.int) [(0, 9, 12, 15), (0, 9, 15, 20)] (rm_X0_append_s) G b0 [.ref h, .int (nI cd), .ref ou] [oC h ad sn hsh, oX (ad 10) 12 [.ref (ad 28), .int (nI 0), .int (bI ml), .int (nI len)], aB G (ad 28) 60 (nF ch), aJ G ou 1 ov] sz (Ri G (fun (r_ : Int32) (_ : Unit) => r_ = nI 2) (fun (_ : Unit) => [oC h ad sn hsh, oX (ad 10) 12 [.ref (ad 28), .int (nI 0), .int (bI ml), .int (nI len)], aB G (ad 28) 60 (nF ch), aJ G ou 1 ov])) := by
  refine CTW.go (by decide) (Nat.le_of_ble_eq_true rfl) (fun p e s m below meth c A ls AR QQ hx hb hr hlk hml hown hnm hts hE hA hAb hsz hP hD hS hl htab hQQ => ?_)
  have hK := hE.1
  have hown : s.vm.findClass RX0 = some m.cls := hown
  have hl : lv_has ls 4 [(0, .ref h), (1, .int (nI cd)), (2, .ref ou)] := hl
  clear hsz
  refine lv_aload_n hx hb dX0_append_0 rfl (lv_at hl 2 rfl) ?_
  refine lv_iconst (v := nI 0) hx hb dX0_append_1 (by decide) ?_
  refine lv_aload_n hx hb dX0_append_2 rfl (lv_at hl 0 rfl) ?_
  refine lv_iload_n hx hb dX0_append_3 rfl (lv_at hl 1 rfl) ?_
  have hF_1 := fr_free (wc := [oC h ad sn hsh, oX (ad 10) 12 [.ref (ad 28), .int (nI 0), .int (bI ml), .int (nI len)], aB G (ad 28) 60 (nF ch)]) [0, 1, 2] rfl hA hS hD
  refine fin_x (ws' := (fun (_ : Unit) => [oC h ad sn hsh, oX (ad 10) 12 [.ref (ad 28), .int (nI 0), .int (bI ml), .int (nI len)], aB G (ad 28) 60 (nF ch), aJ G ou 1 ov])) hS hF_1 (run_VX (As := [.int (nI cd)]) (rest := [.int (nI 0), .ref ou]) (n9 := 1) hx hb hml hown hts hE hAb hl.1 hS hP hD [0, 1, 2] rfl (by decide) (t_X1_append_s l G b0 _ h ad sn hsh cd ml ch len (by exact htr) (by exact hcd) (by exact hln)) (lw_V q1451 q1452 q1453 q106 q1454) 0 rfl rfl ⟨rfl, by decide, by decide, by decide +kernel⟩ ⟨Nat.le_of_ble_eq_true rfl, Nat.le_of_ble_eq_true rfl⟩ ⟨by first | exact Nat.le_of_ble_eq_true rfl | (simp only [rm_X0_append_s, rm_X1_append_s]; omega), by first | exact Nat.le_of_ble_eq_true rfl | (simp only [rm_X0_append_s, rm_X1_append_s]; omega)⟩ dX0_append_4 (Nat.le_of_ble_eq_true rfl) rfl rfl) (fun _ H1_ hk_ hp_ hd_ => fr_sel (ws := [oC h ad sn hsh, oX (ad 10) 12 [.ref (ad 28), .int (nI 0), .int (bI ml), .int (nI len)], aB G (ad 28) 60 (nF ch), aJ G ou 1 ov]) (wc := [oC h ad sn hsh, oX (ad 10) 12 [.ref (ad 28), .int (nI 0), .int (bI ml), .int (nI len)], aB G (ad 28) 60 (nF ch)]) (ws' := [oC h ad sn hsh, oX (ad 10) 12 [.ref (ad 28), .int (nI 0), .int (bI ml), .int (nI len)], aB G (ad 28) 60 (nF ch), aJ G ou 1 ov]) [0, 1, 2] [(true, 0), (true, 1), (true, 2), (false, 3)] rfl rfl (by decide) hP hD hk_ hF_1 hp_ hd_) (fun ce9 q9 u_1 H locs h_1 hP hD hS hce9 hcv9 hcl9 => ?_)
  have hP : va_P G.1 vwCl [oC h ad sn hsh, oX (ad 10) 12 [.ref (ad 28), .int (nI 0), .int (bI ml), .int (nI len)], aB G (ad 28) 60 (nF ch), aJ G ou 1 ov] _ := hP
  have hD : va_D A [oC h ad sn hsh, oX (ad 10) 12 [.ref (ad 28), .int (nI 0), .int (bI ml), .int (nI len)], aB G (ad 28) 60 (nF ch), aJ G ou 1 ov] := hD
  refine vx_catch (own := "CrumbPicturesLaw") (name := "java/lang/IllegalStateException") hown [⟨0, 9, 12, 15⟩] ⟨0, 9, 15, 20⟩ [] htab (pass1 (Or.inr ⟨by decide, _, hts _ q1355, hE.2.2.2.2.2.1.2.2⟩)) (by decide) (by decide) (hts _ q1387) (hE.nb q1397 rfl) hce9 hcv9 hcl9 ?_
  refine W.eq (g2 := F0 m 15 ls [.ref q9]) rfl ?_
  refine lv_astore_n (lv' := [(3, .ref q9), (0, .ref h), (1, .int (nI cd)), (2, .ref ou)]) hx hb dX0_append_15 rfl hl (by decide) rfl (fun ls hl => ?_)
  refine lv_iconst (v := nI 2) hx hb dX0_append_16 (by decide) ?_
  rw [hQQ]
  exact vx_ret (rt_i hx hb hr hlk  ((())) dX0_append_17 hP hD hS (by first | exact Nat.le_of_ble_eq_true rfl | (simp only [rm_X0_append_s, rm_X1_append_s]; omega) | omega) (by first | exact Nat.le_of_ble_eq_true rfl | (simp only [rm_X0_append_s, rm_X1_append_s]; omega) | omega) (by rfl))
def rm_X0_work_a : Room := ({ frames := 11, cells := 3, slots := 256, locals := 364 } : Room)
set_option maxHeartbeats 400000 in
set_option maxRecDepth 100000 in
theorem t_X0_work_a (l : Launch) (G : GG) (b0 sz : Nat) (h : Nat) (ad : Nat → Nat) (sn : Value) (hsh : Int64) (len : Nat) (ml : Bool) (ch : Nat → Nat) (ou : Nat) (ov : Nat → Int64) (htr : l.stackTraces = false) (hle : len ≤ 60) (hch : ∀ j, j < len → ch j ≤ 126) (hpr : (prR ch len).1 = false) : CTW l yX0_work cX0_work 3 (some FieldType.int) [(0, 8, 11, 15)] (rm_X0_work_a) G b0 [.ref h, .ref ou] [oC h ad sn hsh, oX (ad 10) 12 [.ref (ad 28), .int (nI 0), .int (bI ml), .int (nI len)], aB G (ad 28) 60 (nF ch), aJ G ou 1 ov] sz (Ri G (fun (r_ : Int32) (_ : Unit) => r_ = nI 1) (fun (_ : Unit) => [oC h ad sn hsh, oX (ad 10) 12 [.ref (ad 28), .int (nI 0), .int (bI ml), .int (nI len)], aB G (ad 28) 60 (nF ch), aJ G ou 1 ov])) := by
  refine CTW.go (by decide) (Nat.le_of_ble_eq_true rfl) (fun p e s m below meth c A ls AR QQ hx hb hr hlk hml hown hnm hts hE hA hAb hsz hP hD hS hl htab hQQ => ?_)
  have hK := hE.1
  have hown : s.vm.findClass RX0 = some m.cls := hown
  have hl : lv_has ls 3 [(0, .ref h), (1, .ref ou)] := hl
  clear hsz
  refine lv_aload_n hx hb dX0_work_0 rfl (lv_at hl 1 rfl) ?_
  refine lv_iconst (v := nI 0) hx hb dX0_work_1 (by decide) ?_
  refine lv_aload_n hx hb dX0_work_2 rfl (lv_at hl 0 rfl) ?_
  have hF_1 := fr_free (wc := [oC h ad sn hsh, oX (ad 10) 12 [.ref (ad 28), .int (nI 0), .int (bI ml), .int (nI len)], aB G (ad 28) 60 (nF ch)]) [0, 1, 2] rfl hA hS hD
  refine fin_x (ws' := (fun (_ : Unit) => [oC h ad sn hsh, oX (ad 10) 12 [.ref (ad 28), .int (nI 0), .int (bI ml), .int (nI len)], aB G (ad 28) 60 (nF ch), aJ G ou 1 ov])) hS hF_1 (run_VX (As := []) (rest := [.int (nI 0), .ref ou]) (n9 := 0) hx hb hml hown hts hE hAb hl.1 hS hP hD [0, 1, 2] rfl (by decide) (t_X1_work_a l G b0 _ h ad sn hsh len ml ch (by exact htr) (by exact hle) (by exact hch) (by exact hpr)) (lw_V q1475 q1476 q1477 q106 q1478) 0 rfl rfl ⟨rfl, by decide, by decide, by decide +kernel⟩ ⟨Nat.le_of_ble_eq_true rfl, Nat.le_of_ble_eq_true rfl⟩ ⟨by first | exact Nat.le_of_ble_eq_true rfl | (simp only [rm_X0_work_a, rm_X1_work_a]; omega), by first | exact Nat.le_of_ble_eq_true rfl | (simp only [rm_X0_work_a, rm_X1_work_a]; omega)⟩ dX0_work_3 (Nat.le_of_ble_eq_true rfl) rfl rfl) (fun _ H1_ hk_ hp_ hd_ => fr_sel (ws := [oC h ad sn hsh, oX (ad 10) 12 [.ref (ad 28), .int (nI 0), .int (bI ml), .int (nI len)], aB G (ad 28) 60 (nF ch), aJ G ou 1 ov]) (wc := [oC h ad sn hsh, oX (ad 10) 12 [.ref (ad 28), .int (nI 0), .int (bI ml), .int (nI len)], aB G (ad 28) 60 (nF ch)]) (ws' := [oC h ad sn hsh, oX (ad 10) 12 [.ref (ad 28), .int (nI 0), .int (bI ml), .int (nI len)], aB G (ad 28) 60 (nF ch), aJ G ou 1 ov]) [0, 1, 2] [(true, 0), (true, 1), (true, 2), (false, 3)] rfl rfl (by decide) hP hD hk_ hF_1 hp_ hd_) (fun ce9 q9 u_1 H locs h_1 hP hD hS hce9 hcv9 hcl9 => ?_)
  have hP : va_P G.1 vwCl [oC h ad sn hsh, oX (ad 10) 12 [.ref (ad 28), .int (nI 0), .int (bI ml), .int (nI len)], aB G (ad 28) 60 (nF ch), aJ G ou 1 ov] _ := hP
  have hD : va_D A [oC h ad sn hsh, oX (ad 10) 12 [.ref (ad 28), .int (nI 0), .int (bI ml), .int (nI len)], aB G (ad 28) 60 (nF ch), aJ G ou 1 ov] := hD
  refine vx_catch (own := "CrumbPicturesLaw") (name := "java/lang/IllegalArgumentException") hown [] ⟨0, 8, 11, 15⟩ [] htab (pass0) (by decide) (by decide) (hts _ q1355) (hE.nb q849 rfl) hce9 hcv9 hcl9 ?_
  refine W.eq (g2 := F0 m 11 ls [.ref q9]) rfl ?_
  refine lv_astore_n (lv' := [(2, .ref q9), (0, .ref h), (1, .ref ou)]) hx hb dX0_work_11 rfl hl (by decide) rfl (fun ls hl => ?_)
  refine lv_iconst (v := nI 1) hx hb dX0_work_12 (by decide) ?_
  rw [hQQ]
  exact vx_ret (rt_i hx hb hr hlk  ((())) dX0_work_13 hP hD hS (by first | exact Nat.le_of_ble_eq_true rfl | (simp only [rm_X0_work_a, rm_X1_work_a]; omega) | omega) (by first | exact Nat.le_of_ble_eq_true rfl | (simp only [rm_X0_work_a, rm_X1_work_a]; omega) | omega) (by rfl))
def rm_X0_stoppedPart_s : Room := ({ frames := 11, cells := 1, slots := 6, locals := 180 } : Room)
set_option maxHeartbeats 400000 in
set_option maxRecDepth 100000 in
theorem t_X0_stoppedPart_s (l : Launch) (G : GG) (b0 sz : Nat) (h : Nat) (ad : Nat → Nat) (sn : Value) (hsh : Int64) (L : Nat) (stp why : Int32) (ou : Nat) (ov : Nat → Int64) (htr : l.stackTraces = false) (hs : stp = (-1)) : CTW l yX0_stoppedPart cX0_stoppedPart 3 (some FieldType.int) [(0, 8, 11, 20)] (rm_X0_stoppedPart_s) G b0 [.ref h, .ref ou] [oC h ad sn hsh, oX (ad 1) 1 [.ref (ad 11), .int (nI L), .int stp, .int why], aJ G ou 1 ov] sz (Ri G (fun (r_ : Int32) (_ : Unit) => r_ = nI 1) (fun (_ : Unit) => [oC h ad sn hsh, oX (ad 1) 1 [.ref (ad 11), .int (nI L), .int stp, .int why], aJ G ou 1 ov])) := by
  refine CTW.go (by decide) (Nat.le_of_ble_eq_true rfl) (fun p e s m below meth c A ls AR QQ hx hb hr hlk hml hown hnm hts hE hA hAb hsz hP hD hS hl htab hQQ => ?_)
  have hK := hE.1
  have hown : s.vm.findClass RX0 = some m.cls := hown
  have hl : lv_has ls 3 [(0, .ref h), (1, .ref ou)] := hl
  clear hsz
  refine lv_aload_n hx hb dX0_stoppedPart_0 rfl (lv_at hl 1 rfl) ?_
  refine lv_iconst (v := nI 0) hx hb dX0_stoppedPart_1 (by decide) ?_
  refine lv_aload_n hx hb dX0_stoppedPart_2 rfl (lv_at hl 0 rfl) ?_
  have hF_1 := fr_free (wc := [oC h ad sn hsh, oX (ad 1) 1 [.ref (ad 11), .int (nI L), .int stp, .int why]]) [0, 1] rfl hA hS hD
  refine fin_x (ws' := (fun (_ : Unit) => [oC h ad sn hsh, oX (ad 1) 1 [.ref (ad 11), .int (nI L), .int stp, .int why], aJ G ou 1 ov])) hS hF_1 (run_VX (As := []) (rest := [.int (nI 0), .ref ou]) (n9 := 0) hx hb hml hown hts hE hAb hl.1 hS hP hD [0, 1] rfl (by decide) (t_X1_stoppedPart_s l G b0 _ h ad sn hsh L stp why (by exact htr) (by exact hs)) (lw_V q1490 q1491 q1492 q106 q1493) 0 rfl rfl ⟨rfl, by decide, by decide, by decide +kernel⟩ ⟨Nat.le_of_ble_eq_true rfl, Nat.le_of_ble_eq_true rfl⟩ ⟨by first | exact Nat.le_of_ble_eq_true rfl | (simp only [rm_X0_stoppedPart_s, rm_X1_stoppedPart_s]; omega), by first | exact Nat.le_of_ble_eq_true rfl | (simp only [rm_X0_stoppedPart_s, rm_X1_stoppedPart_s]; omega)⟩ dX0_stoppedPart_3 (Nat.le_of_ble_eq_true rfl) rfl rfl) (fun _ H1_ hk_ hp_ hd_ => fr_sel (ws := [oC h ad sn hsh, oX (ad 1) 1 [.ref (ad 11), .int (nI L), .int stp, .int why], aJ G ou 1 ov]) (wc := [oC h ad sn hsh, oX (ad 1) 1 [.ref (ad 11), .int (nI L), .int stp, .int why]]) (ws' := [oC h ad sn hsh, oX (ad 1) 1 [.ref (ad 11), .int (nI L), .int stp, .int why], aJ G ou 1 ov]) [0, 1] [(true, 0), (true, 1), (false, 2)] rfl rfl (by decide) hP hD hk_ hF_1 hp_ hd_) (fun ce9 q9 u_1 H locs h_1 hP hD hS hce9 hcv9 hcl9 => ?_)
  have hP : va_P G.1 vwCl [oC h ad sn hsh, oX (ad 1) 1 [.ref (ad 11), .int (nI L), .int stp, .int why], aJ G ou 1 ov] _ := hP
  have hD : va_D A [oC h ad sn hsh, oX (ad 1) 1 [.ref (ad 11), .int (nI L), .int stp, .int why], aJ G ou 1 ov] := hD
  refine vx_catch (own := "CrumbPicturesLaw") (name := "java/lang/IllegalStateException") hown [] ⟨0, 8, 11, 20⟩ [] htab (pass0) (by decide) (by decide) (hts _ q1387) (hE.nb q1397 rfl) hce9 hcv9 hcl9 ?_
  refine W.eq (g2 := F0 m 11 ls [.ref q9]) rfl ?_
  refine lv_astore_n (lv' := [(2, .ref q9), (0, .ref h), (1, .ref ou)]) hx hb dX0_stoppedPart_11 rfl hl (by decide) rfl (fun ls hl => ?_)
  refine lv_iconst (v := nI 1) hx hb dX0_stoppedPart_12 (by decide) ?_
  rw [hQQ]
  exact vx_ret (rt_i hx hb hr hlk  ((())) dX0_stoppedPart_13 hP hD hS (by first | exact Nat.le_of_ble_eq_true rfl | (simp only [rm_X0_stoppedPart_s, rm_X1_stoppedPart_s]; omega) | omega) (by first | exact Nat.le_of_ble_eq_true rfl | (simp only [rm_X0_stoppedPart_s, rm_X1_stoppedPart_s]; omega) | omega) (by rfl))
def rm_X0_whyStopped_s : Room := ({ frames := 11, cells := 1, slots := 6, locals := 180 } : Room)
set_option maxHeartbeats 400000 in
set_option maxRecDepth 100000 in
theorem t_X0_whyStopped_s (l : Launch) (G : GG) (b0 sz : Nat) (h : Nat) (ad : Nat → Nat) (sn : Value) (hsh : Int64) (L : Nat) (stp why : Int32) (ou : Nat) (ov : Nat → Int64) (htr : l.stackTraces = false) (hs : stp = (-1)) : CTW l yX0_whyStopped cX0_whyStopped 3 (some FieldType.int) [(0, 8, 11, 20)] (rm_X0_whyStopped_s) G b0 [.ref h, .ref ou] [oC h ad sn hsh, oX (ad 1) 1 [.ref (ad 11), .int (nI L), .int stp, .int why], aJ G ou 1 ov] sz (Ri G (fun (r_ : Int32) (_ : Unit) => r_ = nI 1) (fun (_ : Unit) => [oC h ad sn hsh, oX (ad 1) 1 [.ref (ad 11), .int (nI L), .int stp, .int why], aJ G ou 1 ov])) := by
  refine CTW.go (by decide) (Nat.le_of_ble_eq_true rfl) (fun p e s m below meth c A ls AR QQ hx hb hr hlk hml hown hnm hts hE hA hAb hsz hP hD hS hl htab hQQ => ?_)
  have hK := hE.1
  have hown : s.vm.findClass RX0 = some m.cls := hown
  have hl : lv_has ls 3 [(0, .ref h), (1, .ref ou)] := hl
  clear hsz
  refine lv_aload_n hx hb dX0_whyStopped_0 rfl (lv_at hl 1 rfl) ?_
  refine lv_iconst (v := nI 0) hx hb dX0_whyStopped_1 (by decide) ?_
  refine lv_aload_n hx hb dX0_whyStopped_2 rfl (lv_at hl 0 rfl) ?_
  have hF_1 := fr_free (wc := [oC h ad sn hsh, oX (ad 1) 1 [.ref (ad 11), .int (nI L), .int stp, .int why]]) [0, 1] rfl hA hS hD
  refine fin_x (ws' := (fun (_ : Unit) => [oC h ad sn hsh, oX (ad 1) 1 [.ref (ad 11), .int (nI L), .int stp, .int why], aJ G ou 1 ov])) hS hF_1 (run_VX (As := []) (rest := [.int (nI 0), .ref ou]) (n9 := 0) hx hb hml hown hts hE hAb hl.1 hS hP hD [0, 1] rfl (by decide) (t_X1_whyStopped_s l G b0 _ h ad sn hsh L stp why (by exact htr) (by exact hs)) (lw_V q1497 q1498 q1499 q106 q1500) 0 rfl rfl ⟨rfl, by decide, by decide, by decide +kernel⟩ ⟨Nat.le_of_ble_eq_true rfl, Nat.le_of_ble_eq_true rfl⟩ ⟨by first | exact Nat.le_of_ble_eq_true rfl | (simp only [rm_X0_whyStopped_s, rm_X1_whyStopped_s]; omega), by first | exact Nat.le_of_ble_eq_true rfl | (simp only [rm_X0_whyStopped_s, rm_X1_whyStopped_s]; omega)⟩ dX0_whyStopped_3 (Nat.le_of_ble_eq_true rfl) rfl rfl) (fun _ H1_ hk_ hp_ hd_ => fr_sel (ws := [oC h ad sn hsh, oX (ad 1) 1 [.ref (ad 11), .int (nI L), .int stp, .int why], aJ G ou 1 ov]) (wc := [oC h ad sn hsh, oX (ad 1) 1 [.ref (ad 11), .int (nI L), .int stp, .int why]]) (ws' := [oC h ad sn hsh, oX (ad 1) 1 [.ref (ad 11), .int (nI L), .int stp, .int why], aJ G ou 1 ov]) [0, 1] [(true, 0), (true, 1), (false, 2)] rfl rfl (by decide) hP hD hk_ hF_1 hp_ hd_) (fun ce9 q9 u_1 H locs h_1 hP hD hS hce9 hcv9 hcl9 => ?_)
  have hP : va_P G.1 vwCl [oC h ad sn hsh, oX (ad 1) 1 [.ref (ad 11), .int (nI L), .int stp, .int why], aJ G ou 1 ov] _ := hP
  have hD : va_D A [oC h ad sn hsh, oX (ad 1) 1 [.ref (ad 11), .int (nI L), .int stp, .int why], aJ G ou 1 ov] := hD
  refine vx_catch (own := "CrumbPicturesLaw") (name := "java/lang/IllegalStateException") hown [] ⟨0, 8, 11, 20⟩ [] htab (pass0) (by decide) (by decide) (hts _ q1387) (hE.nb q1397 rfl) hce9 hcv9 hcl9 ?_
  refine W.eq (g2 := F0 m 11 ls [.ref q9]) rfl ?_
  refine lv_astore_n (lv' := [(2, .ref q9), (0, .ref h), (1, .ref ou)]) hx hb dX0_whyStopped_11 rfl hl (by decide) rfl (fun ls hl => ?_)
  refine lv_iconst (v := nI 1) hx hb dX0_whyStopped_12 (by decide) ?_
  rw [hQQ]
  exact vx_ret (rt_i hx hb hr hlk  ((())) dX0_whyStopped_13 hP hD hS (by first | exact Nat.le_of_ble_eq_true rfl | (simp only [rm_X0_whyStopped_s, rm_X1_whyStopped_s]; omega) | omega) (by first | exact Nat.le_of_ble_eq_true rfl | (simp only [rm_X0_whyStopped_s, rm_X1_whyStopped_s]; omega) | omega) (by rfl))
def rm_X0_undo_s : Room := ({ frames := 11, cells := 1, slots := 6, locals := 180 } : Room)
set_option maxHeartbeats 400000 in
set_option maxRecDepth 100000 in
theorem t_X0_undo_s (l : Launch) (G : GG) (b0 sz : Nat) (h : Nat) (ad : Nat → Nat) (sn : Value) (hsh : Int64) (ea : Nat) (mc : Int32) (ou : Nat) (ov : Nat → Int64) (htr : l.stackTraces = false) : CTW l yX0_undo cX0_undo 3 (some FieldType.int) [(0, 8, 11, 20)] (rm_X0_undo_s) G b0 [.ref h, .ref ou] [oC h ad sn hsh, oX (ad 9) 11 [.int mc, .ref ea, .int (nI 0)], aJ G ou 1 ov] sz (Ri G (fun (r_ : Int32) (_ : Unit) => r_ = nI 1) (fun (_ : Unit) => [oC h ad sn hsh, oX (ad 9) 11 [.int mc, .ref ea, .int (nI 0)], aJ G ou 1 ov])) := by
  refine CTW.go (by decide) (Nat.le_of_ble_eq_true rfl) (fun p e s m below meth c A ls AR QQ hx hb hr hlk hml hown hnm hts hE hA hAb hsz hP hD hS hl htab hQQ => ?_)
  have hK := hE.1
  have hown : s.vm.findClass RX0 = some m.cls := hown
  have hl : lv_has ls 3 [(0, .ref h), (1, .ref ou)] := hl
  clear hsz
  refine lv_aload_n hx hb dX0_undo_0 rfl (lv_at hl 1 rfl) ?_
  refine lv_iconst (v := nI 0) hx hb dX0_undo_1 (by decide) ?_
  refine lv_aload_n hx hb dX0_undo_2 rfl (lv_at hl 0 rfl) ?_
  have hF_1 := fr_free (wc := [oC h ad sn hsh, oX (ad 9) 11 [.int mc, .ref ea, .int (nI 0)]]) [0, 1] rfl hA hS hD
  refine fin_x (ws' := (fun (_ : Unit) => [oC h ad sn hsh, oX (ad 9) 11 [.int mc, .ref ea, .int (nI 0)], aJ G ou 1 ov])) hS hF_1 (run_VX (As := []) (rest := [.int (nI 0), .ref ou]) (n9 := 0) hx hb hml hown hts hE hAb hl.1 hS hP hD [0, 1] rfl (by decide) (t_X1_undo_s l G b0 _ h ad sn hsh ea mc (by exact htr)) (lw_V q1504 q1505 q1506 q106 q1507) 0 rfl rfl ⟨rfl, by decide, by decide, by decide +kernel⟩ ⟨Nat.le_of_ble_eq_true rfl, Nat.le_of_ble_eq_true rfl⟩ ⟨by first | exact Nat.le_of_ble_eq_true rfl | (simp only [rm_X0_undo_s, rm_X1_undo_s]; omega), by first | exact Nat.le_of_ble_eq_true rfl | (simp only [rm_X0_undo_s, rm_X1_undo_s]; omega)⟩ dX0_undo_3 (Nat.le_of_ble_eq_true rfl) rfl rfl) (fun _ H1_ hk_ hp_ hd_ => fr_sel (ws := [oC h ad sn hsh, oX (ad 9) 11 [.int mc, .ref ea, .int (nI 0)], aJ G ou 1 ov]) (wc := [oC h ad sn hsh, oX (ad 9) 11 [.int mc, .ref ea, .int (nI 0)]]) (ws' := [oC h ad sn hsh, oX (ad 9) 11 [.int mc, .ref ea, .int (nI 0)], aJ G ou 1 ov]) [0, 1] [(true, 0), (true, 1), (false, 2)] rfl rfl (by decide) hP hD hk_ hF_1 hp_ hd_) (fun ce9 q9 u_1 H locs h_1 hP hD hS hce9 hcv9 hcl9 => ?_)
  have hP : va_P G.1 vwCl [oC h ad sn hsh, oX (ad 9) 11 [.int mc, .ref ea, .int (nI 0)], aJ G ou 1 ov] _ := hP
  have hD : va_D A [oC h ad sn hsh, oX (ad 9) 11 [.int mc, .ref ea, .int (nI 0)], aJ G ou 1 ov] := hD
  refine vx_catch (own := "CrumbPicturesLaw") (name := "java/lang/IllegalStateException") hown [] ⟨0, 8, 11, 20⟩ [] htab (pass0) (by decide) (by decide) (hts _ q1387) (hE.nb q1397 rfl) hce9 hcv9 hcl9 ?_
  refine W.eq (g2 := F0 m 11 ls [.ref q9]) rfl ?_
  refine lv_astore_n (lv' := [(2, .ref q9), (0, .ref h), (1, .ref ou)]) hx hb dX0_undo_11 rfl hl (by decide) rfl (fun ls hl => ?_)
  refine lv_iconst (v := nI 1) hx hb dX0_undo_12 (by decide) ?_
  rw [hQQ]
  exact vx_ret (rt_i hx hb hr hlk  ((())) dX0_undo_13 hP hD hS (by first | exact Nat.le_of_ble_eq_true rfl | (simp only [rm_X0_undo_s, rm_X1_undo_s]; omega) | omega) (by first | exact Nat.le_of_ble_eq_true rfl | (simp only [rm_X0_undo_s, rm_X1_undo_s]; omega) | omega) (by rfl))
def rm_X0_restore_s : Room := ({ frames := 11, cells := 1, slots := 6, locals := 180 } : Room)
set_option maxHeartbeats 400000 in
set_option maxRecDepth 100000 in
theorem t_X0_restore_s (l : Launch) (G : GG) (b0 sz : Nat) (h : Nat) (ad : Nat → Nat) (hsh : Int64) (ou : Nat) (ov : Nat → Int64) (htr : l.stackTraces = false) : CTW l yX0_restore cX0_restore 3 (some FieldType.int) [(0, 8, 11, 20)] (rm_X0_restore_s) G b0 [.ref h, .ref ou] [oC h ad .null hsh, aJ G ou 1 ov] sz (Ri G (fun (r_ : Int32) (_ : Unit) => r_ = nI 1) (fun (_ : Unit) => [oC h ad .null hsh, aJ G ou 1 ov])) := by
  refine CTW.go (by decide) (Nat.le_of_ble_eq_true rfl) (fun p e s m below meth c A ls AR QQ hx hb hr hlk hml hown hnm hts hE hA hAb hsz hP hD hS hl htab hQQ => ?_)
  have hK := hE.1
  have hown : s.vm.findClass RX0 = some m.cls := hown
  have hl : lv_has ls 3 [(0, .ref h), (1, .ref ou)] := hl
  clear hsz
  refine lv_aload_n hx hb dX0_restore_0 rfl (lv_at hl 1 rfl) ?_
  refine lv_iconst (v := nI 0) hx hb dX0_restore_1 (by decide) ?_
  refine lv_aload_n hx hb dX0_restore_2 rfl (lv_at hl 0 rfl) ?_
  have hF_1 := fr_free (wc := [oC h ad .null hsh]) [0] rfl hA hS hD
  refine fin_x (ws' := (fun (_ : Unit) => [oC h ad .null hsh, aJ G ou 1 ov])) hS hF_1 (run_VX (As := []) (rest := [.int (nI 0), .ref ou]) (n9 := 0) hx hb hml hown hts hE hAb hl.1 hS hP hD [0] rfl (by decide) (t_X1_restore_s l G b0 _ h ad hsh (by exact htr)) (lw_V q1515 q1516 q1517 q106 q1518) 0 rfl rfl ⟨rfl, by decide, by decide, by decide +kernel⟩ ⟨Nat.le_of_ble_eq_true rfl, Nat.le_of_ble_eq_true rfl⟩ ⟨by first | exact Nat.le_of_ble_eq_true rfl | (simp only [rm_X0_restore_s, rm_X1_restore_s]; omega), by first | exact Nat.le_of_ble_eq_true rfl | (simp only [rm_X0_restore_s, rm_X1_restore_s]; omega)⟩ dX0_restore_3 (Nat.le_of_ble_eq_true rfl) rfl rfl) (fun _ H1_ hk_ hp_ hd_ => fr_sel (ws := [oC h ad .null hsh, aJ G ou 1 ov]) (wc := [oC h ad .null hsh]) (ws' := [oC h ad .null hsh, aJ G ou 1 ov]) [0] [(true, 0), (false, 1)] rfl rfl (by decide) hP hD hk_ hF_1 hp_ hd_) (fun ce9 q9 u_1 H locs h_1 hP hD hS hce9 hcv9 hcl9 => ?_)
  have hP : va_P G.1 vwCl [oC h ad .null hsh, aJ G ou 1 ov] _ := hP
  have hD : va_D A [oC h ad .null hsh, aJ G ou 1 ov] := hD
  refine vx_catch (own := "CrumbPicturesLaw") (name := "java/lang/IllegalStateException") hown [] ⟨0, 8, 11, 20⟩ [] htab (pass0) (by decide) (by decide) (hts _ q1387) (hE.nb q1397 rfl) hce9 hcv9 hcl9 ?_
  refine W.eq (g2 := F0 m 11 ls [.ref q9]) rfl ?_
  refine lv_astore_n (lv' := [(2, .ref q9), (0, .ref h), (1, .ref ou)]) hx hb dX0_restore_11 rfl hl (by decide) rfl (fun ls hl => ?_)
  refine lv_iconst (v := nI 1) hx hb dX0_restore_12 (by decide) ?_
  rw [hQQ]
  exact vx_ret (rt_i hx hb hr hlk  ((())) dX0_restore_13 hP hD hS (by first | exact Nat.le_of_ble_eq_true rfl | (simp only [rm_X0_restore_s, rm_X1_restore_s]; omega) | omega) (by first | exact Nat.le_of_ble_eq_true rfl | (simp only [rm_X0_restore_s, rm_X1_restore_s]; omega) | omega) (by rfl))
def rm_X0_codeBit_i : Room := ({ frames := 11, cells := 45, slots := 94, locals := 386 } : Room)
set_option maxHeartbeats 400000 in
set_option maxRecDepth 100000 in
theorem t_X0_codeBit_i (l : Launch) (G : GG) (b0 sz : Nat) (h : Nat) (ad : Nat → Nat) (sn : Value) (hsh : Int64) (L : Nat) (stp why : Int32) (st : Nat → Int32) (li : Nat → Int32) (pa : Nat → Int32) (ln at_ : Nat) (wa wu : Nat) (wn : Nat) (w : Nat → Int64) (t : Int32) (ou : Nat) (ov : Nat → Int64) (htr : l.stackTraces = false) (hL1 : 1 ≤ L) (hL : L ≤ 3) (hB : BW wn wu w) (hwn : wn ≤ 44) (hbd : bdP (splitP st L)) (htt : inB t (nI 0) (nI (lenC (splitP st L) L 0 - 1)) = false) : CTW l yX0_codeBit cX0_codeBit 4 (some FieldType.int) [(0, 9, 12, 13)] (rm_X0_codeBit_i) G b0 [.ref h, .int t, .ref ou] [oC h ad sn hsh, oX (ad 1) 1 [.ref (ad 11), .int (nI L), .int stp, .int why], aI G (ad 11) 64 st, oX (ad 3) 5 [.ref (ad 12)], aI G (ad 12) 8 li, aI G (ad 6) 64 pa, aR G (ad 2) 3 (orF ad), oX (ad (15 + L)) 2 [.ref (ad (16 + 3 * L)), .ref (ad (17 + 3 * L)), .ref (ad (18 + 3 * L)), .int (nI 64)], aI G (ad (16 + 3 * L)) 64 (nF (orT L)), oX (ad 5) 7 [.ref (ad 14), .ref (ad 15), .int (nI ln), .int (nI at_)], oX (ad 14) 10 [.ref wa, .int (nI wu), .int (bI false)], aJ G wa wn w, aJ G ou 1 ov] sz (Ri G (fun (r_ : Int32) (u : (Nat × Nat × Nat × (Nat → Int64)) × (Nat → Int32)) => r_ = nI 1 ∧ (∀ i, i < lenC (splitP st L) L 0 → bI (rb u.1.2.2.2 u.1.2.2.1 i) = bitS (splitP st L) L i 0) ∧ BW u.1.2.1 u.1.2.2.1 u.1.2.2.2 ∧ lenC (splitP st L) L 0 ≤ 1344 ∧ wn ≤ u.1.2.1 ∧ u.1.2.1 ≤ 44) (fun (u : (Nat × Nat × Nat × (Nat → Int64)) × (Nat → Int32)) => [oC h ad sn hsh, oX (ad 1) 1 [.ref (ad 11), .int (nI L), .int stp, .int why], aI G (ad 11) 64 st, oX (ad 3) 5 [.ref (ad 12)], aI G (ad 12) 8 u.2, aI G (ad 6) 64 (splitP st L), aR G (ad 2) 3 (orF ad), oX (ad (15 + L)) 2 [.ref (ad (16 + 3 * L)), .ref (ad (17 + 3 * L)), .ref (ad (18 + 3 * L)), .int (nI 64)], aI G (ad (16 + 3 * L)) 64 (nF (orT L)), oX (ad 5) 7 [.ref (ad 14), .ref (ad 15), .int (nI (lenC (splitP st L) L 0)), .int (nI at_)], oX (ad 14) 10 [.ref u.1.1, .int (nI u.1.2.2.1), .int (bI false)], aJ G u.1.1 u.1.2.1 u.1.2.2.2, aJ G ou 1 ov])) := by
  refine CTW.go (by decide) (Nat.le_of_ble_eq_true rfl) (fun p e s m below meth c A ls AR QQ hx hb hr hlk hml hown hnm hts hE hA hAb hsz hP hD hS hl htab hQQ => ?_)
  have hK := hE.1
  have hown : s.vm.findClass RX0 = some m.cls := hown
  have hl : lv_has ls 4 [(0, .ref h), (1, .int t), (2, .ref ou)] := hl
  clear hsz
  refine lv_aload_n hx hb dX0_codeBit_0 rfl (lv_at hl 2 rfl) ?_
  refine lv_iconst (v := nI 0) hx hb dX0_codeBit_1 (by decide) ?_
  refine lv_aload_n hx hb dX0_codeBit_2 rfl (lv_at hl 0 rfl) ?_
  refine lv_iload_n hx hb dX0_codeBit_3 rfl (lv_at hl 1 rfl) ?_
  have hF_1 := fr_free (wc := [oC h ad sn hsh, oX (ad 1) 1 [.ref (ad 11), .int (nI L), .int stp, .int why], aI G (ad 11) 64 st, oX (ad 3) 5 [.ref (ad 12)], aI G (ad 12) 8 li, aI G (ad 6) 64 pa, aR G (ad 2) 3 (orF ad), oX (ad (15 + L)) 2 [.ref (ad (16 + 3 * L)), .ref (ad (17 + 3 * L)), .ref (ad (18 + 3 * L)), .int (nI 64)], aI G (ad (16 + 3 * L)) 64 (nF (orT L)), oX (ad 5) 7 [.ref (ad 14), .ref (ad 15), .int (nI ln), .int (nI at_)], oX (ad 14) 10 [.ref wa, .int (nI wu), .int (bI false)], aJ G wa wn w]) [0, 1, 2, 3, 4, 5, 6, 7, 8, 9, 10, 11] rfl hA hS hD
  refine fin_x (ws' := (fun (u_1 : (Nat × Nat × Nat × (Nat → Int64)) × (Nat → Int32)) => [oC h ad sn hsh, oX (ad 1) 1 [.ref (ad 11), .int (nI L), .int stp, .int why], aI G (ad 11) 64 st, oX (ad 3) 5 [.ref (ad 12)], aI G (ad 12) 8 u_1.2, aI G (ad 6) 64 (splitP st L), aR G (ad 2) 3 (orF ad), oX (ad (15 + L)) 2 [.ref (ad (16 + 3 * L)), .ref (ad (17 + 3 * L)), .ref (ad (18 + 3 * L)), .int (nI 64)], aI G (ad (16 + 3 * L)) 64 (nF (orT L)), oX (ad 5) 7 [.ref (ad 14), .ref (ad 15), .int (nI (lenC (splitP st L) L 0)), .int (nI at_)], oX (ad 14) 10 [.ref u_1.1.1, .int (nI u_1.1.2.2.1), .int (bI false)], aJ G u_1.1.1 u_1.1.2.1 u_1.1.2.2.2, aJ G ou 1 ov])) hS hF_1 (run_VX (As := [.int t]) (rest := [.int (nI 0), .ref ou]) (n9 := 1) hx hb hml hown hts hE hAb hl.1 hS hP hD [0, 1, 2, 3, 4, 5, 6, 7, 8, 9, 10, 11] rfl (by decide) (t_X1_codeBit_i l G b0 _ h ad sn hsh L stp why st li pa ln at_ wa wu wn w t (by exact htr) (by exact hL1) (by exact hL) (by exact hB) (by exact hwn) (by exact hbd) (by exact htt)) (lw_V q1628 q1629 q1630 q106 q1631) 0 rfl rfl ⟨rfl, by decide, by decide, by decide +kernel⟩ ⟨Nat.le_of_ble_eq_true rfl, Nat.le_of_ble_eq_true rfl⟩ ⟨by first | exact Nat.le_of_ble_eq_true rfl | (simp only [rm_X0_codeBit_i, rm_X1_codeBit_i]; omega), by first | exact Nat.le_of_ble_eq_true rfl | (simp only [rm_X0_codeBit_i, rm_X1_codeBit_i]; omega)⟩ dX0_codeBit_4 (Nat.le_of_ble_eq_true rfl) rfl rfl) (fun u_1 H1_ hk_ hp_ hd_ => fr_sel (ws := [oC h ad sn hsh, oX (ad 1) 1 [.ref (ad 11), .int (nI L), .int stp, .int why], aI G (ad 11) 64 st, oX (ad 3) 5 [.ref (ad 12)], aI G (ad 12) 8 li, aI G (ad 6) 64 pa, aR G (ad 2) 3 (orF ad), oX (ad (15 + L)) 2 [.ref (ad (16 + 3 * L)), .ref (ad (17 + 3 * L)), .ref (ad (18 + 3 * L)), .int (nI 64)], aI G (ad (16 + 3 * L)) 64 (nF (orT L)), oX (ad 5) 7 [.ref (ad 14), .ref (ad 15), .int (nI ln), .int (nI at_)], oX (ad 14) 10 [.ref wa, .int (nI wu), .int (bI false)], aJ G wa wn w, aJ G ou 1 ov]) (wc := [oC h ad sn hsh, oX (ad 1) 1 [.ref (ad 11), .int (nI L), .int stp, .int why], aI G (ad 11) 64 st, oX (ad 3) 5 [.ref (ad 12)], aI G (ad 12) 8 li, aI G (ad 6) 64 pa, aR G (ad 2) 3 (orF ad), oX (ad (15 + L)) 2 [.ref (ad (16 + 3 * L)), .ref (ad (17 + 3 * L)), .ref (ad (18 + 3 * L)), .int (nI 64)], aI G (ad (16 + 3 * L)) 64 (nF (orT L)), oX (ad 5) 7 [.ref (ad 14), .ref (ad 15), .int (nI ln), .int (nI at_)], oX (ad 14) 10 [.ref wa, .int (nI wu), .int (bI false)], aJ G wa wn w]) (ws' := [oC h ad sn hsh, oX (ad 1) 1 [.ref (ad 11), .int (nI L), .int stp, .int why], aI G (ad 11) 64 st, oX (ad 3) 5 [.ref (ad 12)], aI G (ad 12) 8 u_1.2, aI G (ad 6) 64 (splitP st L), aR G (ad 2) 3 (orF ad), oX (ad (15 + L)) 2 [.ref (ad (16 + 3 * L)), .ref (ad (17 + 3 * L)), .ref (ad (18 + 3 * L)), .int (nI 64)], aI G (ad (16 + 3 * L)) 64 (nF (orT L)), oX (ad 5) 7 [.ref (ad 14), .ref (ad 15), .int (nI (lenC (splitP st L) L 0)), .int (nI at_)], oX (ad 14) 10 [.ref u_1.1.1, .int (nI u_1.1.2.2.1), .int (bI false)], aJ G u_1.1.1 u_1.1.2.1 u_1.1.2.2.2, aJ G ou 1 ov]) [0, 1, 2, 3, 4, 5, 6, 7, 8, 9, 10, 11] [(true, 0), (true, 1), (true, 2), (true, 3), (true, 4), (true, 5), (true, 6), (true, 7), (true, 8), (true, 9), (true, 10), (true, 11), (false, 12)] rfl rfl (by decide) hP hD hk_ hF_1 hp_ hd_) (fun ce9 q9 u_1 H locs h_1 hP hD hS hce9 hcv9 hcl9 => ?_)
  have hP : va_P G.1 vwCl [oC h ad sn hsh, oX (ad 1) 1 [.ref (ad 11), .int (nI L), .int stp, .int why], aI G (ad 11) 64 st, oX (ad 3) 5 [.ref (ad 12)], aI G (ad 12) 8 u_1.2, aI G (ad 6) 64 (splitP st L), aR G (ad 2) 3 (orF ad), oX (ad (15 + L)) 2 [.ref (ad (16 + 3 * L)), .ref (ad (17 + 3 * L)), .ref (ad (18 + 3 * L)), .int (nI 64)], aI G (ad (16 + 3 * L)) 64 (nF (orT L)), oX (ad 5) 7 [.ref (ad 14), .ref (ad 15), .int (nI (lenC (splitP st L) L 0)), .int (nI at_)], oX (ad 14) 10 [.ref u_1.1.1, .int (nI u_1.1.2.2.1), .int (bI false)], aJ G u_1.1.1 u_1.1.2.1 u_1.1.2.2.2, aJ G ou 1 ov] _ := hP
  have hD : va_D A [oC h ad sn hsh, oX (ad 1) 1 [.ref (ad 11), .int (nI L), .int stp, .int why], aI G (ad 11) 64 st, oX (ad 3) 5 [.ref (ad 12)], aI G (ad 12) 8 u_1.2, aI G (ad 6) 64 (splitP st L), aR G (ad 2) 3 (orF ad), oX (ad (15 + L)) 2 [.ref (ad (16 + 3 * L)), .ref (ad (17 + 3 * L)), .ref (ad (18 + 3 * L)), .int (nI 64)], aI G (ad (16 + 3 * L)) 64 (nF (orT L)), oX (ad 5) 7 [.ref (ad 14), .ref (ad 15), .int (nI (lenC (splitP st L) L 0)), .int (nI at_)], oX (ad 14) 10 [.ref u_1.1.1, .int (nI u_1.1.2.2.1), .int (bI false)], aJ G u_1.1.1 u_1.1.2.1 u_1.1.2.2.2, aJ G ou 1 ov] := hD
  have f_1 : (∀ i, i < lenC (splitP st L) L 0 → bI (rb u_1.1.2.2.2 u_1.1.2.2.1 i) = bitS (splitP st L) L i 0) ∧ BW u_1.1.2.1 u_1.1.2.2.1 u_1.1.2.2.2 ∧ lenC (splitP st L) L 0 ≤ 1344 ∧ wn ≤ u_1.1.2.1 ∧ u_1.1.2.1 ≤ 44 := h_1
  have hcf := f_1
  refine vx_catch (own := "CrumbPicturesLaw") (name := "java/lang/IndexOutOfBoundsException") hown [] ⟨0, 9, 12, 13⟩ [] htab (pass0) (by decide) (by decide) (hts _ q1352) (hE.nb q1112 rfl) hce9 hcv9 hcl9 ?_
  refine W.eq (g2 := F0 m 12 ls [.ref q9]) rfl ?_
  refine lv_astore_n (lv' := [(3, .ref q9), (0, .ref h), (1, .int t), (2, .ref ou)]) hx hb dX0_codeBit_12 rfl hl (by decide) rfl (fun ls hl => ?_)
  refine lv_iconst (v := nI 1) hx hb dX0_codeBit_13 (by decide) ?_
  rw [hQQ]
  exact vx_ret (rt_i hx hb hr hlk  u_1 dX0_codeBit_14 hP hD hS (by first | exact Nat.le_of_ble_eq_true rfl | (simp only [rm_X0_codeBit_i, rm_X1_codeBit_i]; omega) | omega) (by first | exact Nat.le_of_ble_eq_true rfl | (simp only [rm_X0_codeBit_i, rm_X1_codeBit_i]; omega) | omega) ⟨(by rfl), by exact hcf⟩)
def rm_X0_undo_t : Room := ({ frames := 4, cells := 0, slots := 0, locals := 133 } : Room)
set_option maxHeartbeats 400000 in
set_option maxRecDepth 100000 in
theorem t_X0_undo_t (l : Launch) (G : GG) (b0 sz : Nat) (h : Nat) (ad : Nat → Nat) (sn : Value) (hsh : Int64) (L : Nat) (stp why : Int32) (st : Nat → Int32) (x : svR) (xs : List svR) (T : va_W) (ou : Nat) (ov : Nat → Int64) (hSV : SV G (ad 9) (x :: xs) T) : CTW l yX0_undo cX0_undo 3 (some FieldType.int) [(0, 8, 11, 20)] (rm_X0_undo_t) G b0 [.ref h, .ref ou] ([oC h ad sn hsh, oX (ad 1) 1 [.ref (ad 11), .int (nI L), .int stp, .int why], aI G (ad 11) 64 st, aJ G ou 1 ov] ++ T) sz (Ri G (fun (r_ : Int32) (u : va_W) => r_ = nI 0 ∧ SV G (ad 9) xs u) (fun (u : va_W) => ([oC h ad sn hsh, oX (ad 1) 1 [.ref (ad 11), .int (nI x.2.2.2.1), .int x.2.2.2.2.1, .int x.2.2.2.2.2], aI G (ad 11) 64 x.2.2.1, aJ G ou 1 (vp_updL ov 0 ((nI xs.length).toInt64))] ++ u))) := by
  refine CTW.go (by decide) (Nat.le_of_ble_eq_true rfl) (fun p e s m below meth c A ls AR QQ hx hb hr hlk hml hown hnm hts hE hA hAb hsz hP hD hS hl htab hQQ => ?_)
  have hK := hE.1
  have hown : s.vm.findClass RX0 = some m.cls := hown
  have hl : lv_has ls 3 [(0, .ref h), (1, .ref ou)] := hl
  clear hsz
  refine lv_aload_n hx hb dX0_undo_0 rfl (lv_at hl 1 rfl) ?_
  refine lv_iconst (v := nI 0) hx hb dX0_undo_1 (by decide) ?_
  refine lv_aload_n hx hb dX0_undo_2 rfl (lv_at hl 0 rfl) ?_
  have hF_1 := fr_free (wc := [oC h ad sn hsh, oX (ad 1) 1 [.ref (ad 11), .int (nI L), .int stp, .int why], aI G (ad 11) 64 st] ++ T) (isT [0, 1, 2] 4 T) (isT_C (ws := [oC h ad sn hsh, oX (ad 1) 1 [.ref (ad 11), .int (nI L), .int stp, .int why], aI G (ad 11) 64 st, aJ G ou 1 ov]) (wc := [oC h ad sn hsh, oX (ad 1) 1 [.ref (ad 11), .int (nI L), .int stp, .int why], aI G (ad 11) 64 st]) rfl) hA hS hD
  refine fin_iF (ws' := (fun (u_1 : va_W) => ([oC h ad sn hsh, oX (ad 1) 1 [.ref (ad 11), .int (nI x.2.2.2.1), .int x.2.2.2.2.1, .int x.2.2.2.2.2], aI G (ad 11) 64 x.2.2.1, aJ G ou 1 ov] ++ u_1))) hS hF_1 (run_V (As := []) (rest := [.int (nI 0), .ref ou]) (n9 := 0) hx hb hml hown hts hE hAb hl.1 hS hP hD (isT [0, 1, 2] 4 T) (isT_C (ws := [oC h ad sn hsh, oX (ad 1) 1 [.ref (ad 11), .int (nI L), .int stp, .int why], aI G (ad 11) 64 st, aJ G ou 1 ov]) (wc := [oC h ad sn hsh, oX (ad 1) 1 [.ref (ad 11), .int (nI L), .int stp, .int why], aI G (ad 11) 64 st]) rfl) (isT_n (by decide)) (t_X1_undo_t l G b0 _ h ad sn hsh L stp why st x xs T (by exact hSV)) (lw_V q1504 q1505 q1506 q106 q1507) 0 rfl rfl ⟨rfl, by decide, by decide, by decide +kernel⟩ ⟨Nat.le_of_ble_eq_true rfl, Nat.le_of_ble_eq_true rfl⟩ ⟨by first | exact Nat.le_of_ble_eq_true rfl | (simp only [rm_X0_undo_t, rm_X1_undo_t]; omega), by first | exact Nat.le_of_ble_eq_true rfl | (simp only [rm_X0_undo_t, rm_X1_undo_t]; omega)⟩ dX0_undo_3 (Nat.le_of_ble_eq_true rfl) rfl rfl) (fun u_1 H1_ hk_ hp_ hd_ => fr_selP (w1 := [oC h ad sn hsh, oX (ad 1) 1 [.ref (ad 11), .int (nI x.2.2.2.1), .int x.2.2.2.2.1, .int x.2.2.2.2.2], aI G (ad 11) 64 x.2.2.1]) (ws := [oC h ad sn hsh, oX (ad 1) 1 [.ref (ad 11), .int (nI L), .int stp, .int why], aI G (ad 11) 64 st, aJ G ou 1 ov]) (wc := [oC h ad sn hsh, oX (ad 1) 1 [.ref (ad 11), .int (nI L), .int stp, .int why], aI G (ad 11) 64 st]) (ws' := [oC h ad sn hsh, oX (ad 1) 1 [.ref (ad 11), .int (nI x.2.2.2.1), .int x.2.2.2.2.1, .int x.2.2.2.2.2], aI G (ad 11) 64 x.2.2.1, aJ G ou 1 ov]) (tl := T) [0, 1, 2] [(true, 0), (true, 1), (true, 2), (false, 3)] 3 rfl rfl rfl (by decide) hP hD hk_ hF_1 hp_ hd_) (fun r_1 u_1 H locs h_1 hP hD hS => ?_)
  have hP : va_P G.1 vwCl ([oC h ad sn hsh, oX (ad 1) 1 [.ref (ad 11), .int (nI x.2.2.2.1), .int x.2.2.2.2.1, .int x.2.2.2.2.2], aI G (ad 11) 64 x.2.2.1, aJ G ou 1 ov] ++ u_1) _ := hP
  have hD : va_D A ([oC h ad sn hsh, oX (ad 1) 1 [.ref (ad 11), .int (nI x.2.2.2.1), .int x.2.2.2.2.1, .int x.2.2.2.2.2], aI G (ad 11) 64 x.2.2.1, aJ G ou 1 ov] ++ u_1) := hD
  obtain ⟨h_1, f_1⟩ := h_1
  have h_1 : r_1 = (nI xs.length) := h_1
  try rw [h_1] at f_1
  have f_1 : SV G (ad 9) xs u_1 := f_1
  rw [h_1]
  have hcf := f_1
  refine lv_i2l (v := (nI xs.length).toInt64) hx hb dX0_undo_6 rfl ?_
  refine N_last (ws' := ([oC h ad sn hsh, oX (ad 1) 1 [.ref (ad 11), .int (nI x.2.2.2.1), .int x.2.2.2.2.1, .int x.2.2.2.2.2], aI G (ad 11) 64 x.2.2.1, aJ G ou 1 (vp_updL ov 0 ((nI xs.length).toInt64))] ++ u_1)) hx hb dX0_undo_7 hK hP hD hS 3 2 rfl rfl (by omega) (by omega) rfl (fun H locs hP hD hS => ?_)
  refine lv_goto (tgt := 14) hx hb dX0_undo_8 (by decide) ?_
  refine lv_iconst (v := nI 0) hx hb dX0_undo_14 (by decide) ?_
  rw [hQQ]
  exact vx_ret (rt_i hx hb hr hlk  u_1 dX0_undo_15 hP hD hS (by first | exact Nat.le_of_ble_eq_true rfl | (simp only [rm_X0_undo_t, rm_X1_undo_t]; omega) | omega) (by first | exact Nat.le_of_ble_eq_true rfl | (simp only [rm_X0_undo_t, rm_X1_undo_t]; omega) | omega) ⟨(by rfl), by exact hcf⟩)
