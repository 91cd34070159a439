/-! ===== the order: the boxes, the bands, their going through ===== -/
theorem lw_F {own : String} {idx : Nat} {C : String} {x y : MethodName} {b : ByteArray} {L : Nat} {r : Option FieldType} (h1 : Cond.methodLink own idx x ∈ lw_all) (h2 : Cond.selects C x y ∈ lw_all) (h3 : Cond.instanceMethod y ∈ lw_all) (h4 : Cond.initialized y.cls ∈ lw_all) (h5 : Cond.code y b L r ∈ lw_all) : GoodIn lw_all (va_wsF own idx C x y (ws_ y b L r)) := by
  refine lw_app ?_ (lw_meth h5)
  intro w hw
  simp only [List.mem_cons, List.not_mem_nil, or_false] at hw
  rcases hw with e | e | e | e
  · rw [e]; exact h1
  · rw [e]; exact h2
  · rw [e]; exact h3
  · rw [e]; exact h4
section CLF
variable {p : Program} {l : Launch} {e : Jvm.Env} {R : Room} {s : State} {m : MethodId} {args : Array Value} {below : List Frame} {meth : Method} {c : Code} {H : Heap} {locs : List Loc} {cells slots : Nat} {Q : State → Prop}
variable {cc : ByteArray} {pc : Nat} {ls : Array Slot} {rest : List Value} {A : Nat → Prop} {G : GG} {b0 : Nat}
variable {y : MethodName} {bytes : ByteArray} {maxL nL index : Nat} {rt : Option FieldType} {rm : Room} {own C host : String} {b : Nat} {As : List Value} {wc ws : va_W} {Qc : Qt} {n9 : Nat}
theorem run_VR (hx : p.tables.exec = Jvm.exec) (hb : c.code = cc) (hml : c.maxLocals = nL) (hown : s.vm.findClass own = some m.cls) (hts : ∀ w ∈ lw_all, w.before args s = true) (hE : Env G b0 s) (hAb : ∀ q, A q → b0 ≤ q) (hls : ls.size = nL) (hS : va_S A s.heap H locs) (hP : va_P G.1 vwCl ws H) (hD : va_D A ws)
    (isC : List Nat) (hC : isC.map (fun i => ws[i]?) = wc.map some) (hn : va_nd isC = true) (hM : CT l y bytes maxL rt rm G b0 (.ref b :: As) wc H.size Qc) (hg : GoodIn lw_all (wsV own index C y (ws_ y bytes maxL rt)))
    (hrc : ∃ cell : Cell, H[b]? = some cell ∧ cell.vm.isStatics = false ∧ s.vm.findClass C = some cell.cls) (hd : y.cls = C ∧ y.cls ≠ "java/lang/invoke/MethodHandle" ∧ y.cls ≠ "java/lang/invoke/VarHandle" ∧ (parseMethodDescriptor y.desc).map (fun d => d.parameters.length) = some n9) (hR : rm.frames + 1 ≤ R.frames ∧ 8 + (maxL + 11) + rm.locals ≤ R.locals)
    (hcs : cells + rm.cells ≤ R.cells ∧ slots + rm.slots ≤ R.slots) (hdg : decode cc pc = .ok (.invokevirtual index, 3)) (h8 : (rest.map fun v => v.category).sum ≤ 8) {st0 : List Value} (hn9 : As.length = n9) (hst : st0 = As.reverse ++ .ref b :: rest) :
    va_Run p l e R s m args below meth c H locs cells slots rm.cells rm.slots (F0 m pc ls st0) rest (Qc (va_A wc H.size) (Value.ref b :: As).toArray) (va_A wc H.size) := by
  subst hst
  refine va_runV (As := As) (rest := rest) (C := C) ⟨hx, hb, hml, hown, hts⟩ hM (cwV n9 hts hg rfl rfl rfl hd hR) ⟨Pr.blind, hrc, preOf isC hC hn hE hAb hS hP hD _⟩ rfl hn9 hls rfl (lv_room h8) hdg hcs
theorem run_F {x : MethodName} {count : Nat} (hx : p.tables.exec = Jvm.exec) (hb : c.code = cc) (hml : c.maxLocals = nL) (hown : s.vm.findClass own = some m.cls) (hts : ∀ w ∈ lw_all, w.before args s = true) (hE : Env G b0 s) (hAb : ∀ q, A q → b0 ≤ q) (hls : ls.size = nL) (hS : va_S A s.heap H locs) (hP : va_P G.1 vwCl ws H) (hD : va_D A ws)
    (isC : List Nat) (hC : isC.map (fun i => ws[i]?) = wc.map some) (hn : va_nd isC = true) (hM : CT l y bytes maxL rt rm G b0 (.ref b :: As) wc H.size Qc) (hg : GoodIn lw_all (va_wsF own index C x y (ws_ y bytes maxL rt)))
    (hF : va_Fw C x y s) (q0 : Nat) {ci : Nat} {fs : List Value} {T : u_T} {N : Nat} (hrv : ws[q0]? = some (b, .inr (ci, fs))) (hci : vwCl[ci]? = some (C, T, N)) (hd : x.cls ≠ "java/lang/invoke/MethodHandle" ∧ x.cls ≠ "java/lang/invoke/VarHandle" ∧ (parseMethodDescriptor x.desc).map (fun d => d.parameters.length) = some n9) (hR : rm.frames + 1 ≤ R.frames ∧ 8 + (maxL + 11) + rm.locals ≤ R.locals)
    (hcs : cells + rm.cells ≤ R.cells ∧ slots + rm.slots ≤ R.slots) (hdg : decode cc pc = .ok (.invokeinterface index count, 5)) (h8 : (rest.map fun v => v.category).sum ≤ 8) {st0 : List Value} (hn9 : As.length = n9) (hst : st0 = As.reverse ++ .ref b :: rest) :
    va_Run5 p l e R s m args below meth c H locs cells slots rm.cells rm.slots (F0 m pc ls st0) rest (Qc (va_A wc H.size) (Value.ref b :: As).toArray) (va_A wc H.size) := by
  subst hst
  refine va_runF (As := As) (rest := rest) (C := C) ((hE.1.1 ci _ hci).2) ⟨hx, hb, hml, hown, hts⟩ hM (va_cwF n9 hts hg rfl rfl rfl hF hd hR) ⟨Pr.blind, va_recv hE.1 hP hci hrv, preOf isC hC hn hE hAb hS hP hD _⟩ rfl hn9 hls rfl (lv_room h8) hdg hcs
section FINF
variable {S : Type} {wp ws' : S → va_W} {mc ms : Nat} {st0 : List Value} {a9 : Array Value}
theorem fin_Fi {post : Int32 → S → Prop} (hA : ∀ q, s.heap.size ≤ q → A q) (hS : va_S A s.heap H locs) (hP : va_P G.1 vwCl ws H) (hD : va_D A ws) (isC : List Nat) (hC : isC.map (fun i => ws[i]?) = wc.map some) (sel : List (Bool × Nat)) (hsel : ∀ u, sel.map (fun q => if q.1 = true then (wp u)[q.2]? else ws[q.2]?) = (ws' u).map some) (hok : selOk isC sel = true)
    (hr : va_Run5 p l e R s m args below meth c H locs cells slots mc ms (F0 m pc ls st0) rest (Ri G post wp (va_A wc H.size) a9) (va_A wc H.size))
    (kk : ∀ (r : Int32) (u : S) (H1 : Heap) (locs1 : List Loc), post r u → va_P G.1 vwCl (ws' u) H1 → va_D A (ws' u) → va_S A s.heap H1 locs1 → W p l e R s m args below meth c H1 locs1 (cells + mc) (slots + ms) Q (F0 m (pc + 5) ls (.int r :: rest))) : W p l e R s m args below meth c H locs cells slots Q (F0 m pc ls st0) := by
  have hF := fr_free isC hC hA hS hD
  refine va_callFi hr hS (fun q _ h => hF q h) hF (fun r u t H1 locs1 ht hvm hw hB hz1 hk1 hS1 => ?_)
  obtain ⟨hP1, hD1⟩ := hB
  rw [ht] at hP1
  obtain ⟨hP2, hD2⟩ := fr_sel isC sel hC (hsel u) hok hP hD hk1 hF hP1 hD1
  exact kk r u H1 locs1 hw hP2 hD2 hS1
theorem fin_Fr {post : S → Prop} {ra : S → Nat} (hA : ∀ q, s.heap.size ≤ q → A q) (hS : va_S A s.heap H locs) (hP : va_P G.1 vwCl ws H) (hD : va_D A ws) (isC : List Nat) (hC : isC.map (fun i => ws[i]?) = wc.map some) (sel : List (Bool × Nat)) (hsel : ∀ u, sel.map (fun q => if q.1 = true then (wp u)[q.2]? else ws[q.2]?) = (ws' u).map some) (hok : selOk isC sel = true)
    (hr : va_Run5 p l e R s m args below meth c H locs cells slots mc ms (F0 m pc ls st0) rest (Rr G post ra wp (va_A wc H.size) a9) (va_A wc H.size))
    (kk : ∀ (u : S) (H1 : Heap) (locs1 : List Loc), post u → va_P G.1 vwCl (ws' u) H1 → va_D A (ws' u) → va_S A s.heap H1 locs1 → W p l e R s m args below meth c H1 locs1 (cells + mc) (slots + ms) Q (F0 m (pc + 5) ls (.ref (ra u) :: rest))) : W p l e R s m args below meth c H locs cells slots Q (F0 m pc ls st0) := by
  have hF := fr_free isC hC hA hS hD
  refine va_callFr hr hS (fun q _ h => hF q h) hF (fun u r t H1 locs1 ht hvm hw hB hz1 hk1 hS1 => ?_)
  obtain ⟨rfl, hP1, hD1⟩ := hB
  rw [ht] at hP1
  obtain ⟨hP2, hD2⟩ := fr_sel isC sel hC (hsel u) hok hP hD hk1 hF hP1 hD1
  exact kk u H1 locs1 hw hP2 hD2 hS1
end FINF
end CLF
theorem St.nar {G : GG} {A B : Nat → Prop} {U : State} {H : Heap} (h : St G A U H) (hAB : ∀ q, B q → A q) : St G B U H := by
  exact h.narrow hAB
theorem nI_gm {i : Nat} (h : i < 2147483648) : ¬ nI i < (-128) := by
  intro hh
  have h1 := Int32.lt_iff_toInt_lt.mp hh
  rw [nI_toInt h] at h1
  have : (-128 : Int32).toInt = -128 := by decide
  omega
theorem box_v {i : Nat} (h : i < 2147483000) : vb_c (i + 128) = nI i := by
  unfold vb_c
  show nI (i + 128) - nI 128 = nI i
  rw [pk_sub (by omega)]
  rw [Nat.add_sub_cancel]
/-- the next cell of a band -/
def nbF (b L : Nat) : Nat → Nat → Nat
  | 0, a => a
  | f + 1, a => if bndC a L = b then a else nbF b L f (a + 1)
def nbS (b L a : Nat) : Nat := nbF b L (64 - a) a
theorem nbS_s {b L a : Nat} (h : a < 64) : nbS b L a = if bndC a L = b then a else nbS b L (a + 1) := by
  unfold nbS
  have : 64 - a = (64 - (a + 1)) + 1 := by omega
  rw [this]
  rfl
theorem nbF_le {b L : Nat} : ∀ (f a : Nat), nbF b L f a ≤ a + f ∧ a ≤ nbF b L f a := by
  intro f
  induction f with
  | zero => intro a; exact ⟨Nat.le_refl _, Nat.le_refl _⟩
  | succ f ih =>
    intro a
    unfold nbF
    split
    · omega
    · have := ih (a + 1); omega
theorem bndC_le {x L : Nat} (h : L ≤ 3) : bndC x L ≤ 9 := by
  have h1 := levC_le (x := x) h
  unfold bndC
  repeat' split
  all_goals omega
theorem nbS_e1 {b L a : Nat} (h : a < 64) (e : bndC a L = b) : nbS b L a = a := by
  rw [nbS_s h, if_pos e]
theorem nbS_e2 {b L a : Nat} (h : a = 64) : nbS b L a = a := by
  subst h
  rfl
theorem nbS_le {b L a : Nat} (h : a ≤ 64) : nbS b L a ≤ 64 ∧ a ≤ nbS b L a := by
  have := nbF_le (b := b) (L := L) (64 - a) a
  unfold nbS
  omega
def rm_J5_valueOf : Room := ({ frames := 0, cells := 0, slots := 0, locals := 0 } : Room)
set_option maxHeartbeats 400000 in
set_option maxRecDepth 100000 in
theorem t_J5_valueOf (l : Launch) (G : GG) (b0 sz : Nat) (i : Nat) (hi : i ≤ 127) : CT l yJ5_valueOf cJ5_valueOf 1 (some (FieldType.object "java/lang/Integer")) (rm_J5_valueOf) G b0 [.int (nI i)] [] sz (Rr G (fun (_ : Unit) => True) (fun (_ : Unit) => G.2.2.2 (i + 128)) (fun (_ : Unit) => [])) := by
  refine CT.go (by decide) (Nat.le_of_ble_eq_true rfl) (fun p e s m below meth c A ls AR QQ hx hb hr hlk hml hown hnm hts hE hA hAb hsz hP hD hS hl hQQ => ?_)
  have hK := hE.1
  have hown : s.vm.findClass RJ5 = some m.cls := hown
  have hl : lv_has ls 1 [(0, .int (nI i))] := hl
  clear hsz
  refine lv_iload_n hx hb dJ5_valueOf_0 rfl (lv_at hl 0 rfl) ?_
  refine lv_bipush (v := (-128)) hx hb dJ5_valueOf_1 (by decide) ?_
  refine lv_icmp_lt (tgt := 23) hx hb dJ5_valueOf_3 (by decide) (fun c_3 => ?_) (fun c_3 => ?_)
  · skip
    exfalso; exact absurd c_3 (nI_gm (by omega))
  · skip
    refine lv_iload_n hx hb dJ5_valueOf_6 rfl (lv_at hl 0 rfl) ?_
    refine va_gets (C := "java/lang/Integer$IntegerCache") (n := "high") (d := "I") (ref := "java/lang/Integer$IntegerCache") hx hb (hE.2.2.2.2.2.2.nar hAb).2.2.1 hS hown (hts _ q322) (fun _ h_ => h_) dJ5_valueOf_7 ?_
    refine W.eq (g2 := F0 m 10 ls [.int (nI 127), .int (nI i)]) rfl ?_
    refine N_icmp_gt (tgt := 23) hx hb dJ5_valueOf_10 (by decide) (by omega) (by omega) (fun c_10 => ?_) (fun c_10 => ?_)
    · skip
      exfalso; omega
    · skip
      refine va_gets (C := "java/lang/Integer$IntegerCache") (n := "cache") (d := "[Ljava/lang/Integer;") (ref := "java/lang/Integer$IntegerCache") hx hb (hE.2.2.2.2.2.2.nar hAb).2.2.2.1 hS hown (hts _ q324) (fun _ h_ => h_) dJ5_valueOf_13 ?_
      refine lv_iload_n hx hb dJ5_valueOf_16 rfl (lv_at hl 0 rfl) ?_
      refine lv_sipush (v := nI 128) hx hb dJ5_valueOf_17 (by decide) ?_
      refine N_iadd hx hb dJ5_valueOf_20 ?_
      refine vb_tq (C := "java/lang/Integer") hx hb (hE.2.2.2.2.2.2.nar hAb).2.2.2.2.1 hS (vp_in_nI (by omega) (by omega)) (v := .ref (G.2.2.2 (i + 128))) (by rw [nI_clamp (by omega)]) dJ5_valueOf_21 ?_
      rw [hQQ]
      exact rt_r hx hb hr hlk (by first | exact Or.inl ⟨_, rfl⟩ | exact Or.inr ⟨_, rfl⟩) (()) dJ5_valueOf_22 hP hD hS (by first | exact Nat.le_of_ble_eq_true rfl | (simp only [rm_J5_valueOf]; omega)) (by first | exact Nat.le_of_ble_eq_true rfl | (simp only [rm_J5_valueOf]; omega)) (by rfl) trivial
def rm_J5_intValue : Room := ({ frames := 0, cells := 0, slots := 0, locals := 0 } : Room)
set_option maxHeartbeats 400000 in
set_option maxRecDepth 100000 in
theorem t_J5_intValue (l : Launch) (G : GG) (b0 sz : Nat) (q k : Nat) (hq : q = G.2.2.2 k) (hk : k < 256) : CT l yJ5_intValue cJ5_intValue 1 (some FieldType.int) (rm_J5_intValue) G b0 [.ref q] [] sz (Ri G (fun (r_ : Int32) (_ : Unit) => r_ = vb_c k) (fun (_ : Unit) => [])) := by
  refine CT.go (by decide) (Nat.le_of_ble_eq_true rfl) (fun p e s m below meth c A ls AR QQ hx hb hr hlk hml hown hnm hts hE hA hAb hsz hP hD hS hl hQQ => ?_)
  have hK := hE.1
  have hown : s.vm.findClass RJ5 = some m.cls := hown
  have hl : lv_has ls 1 [(0, .ref q)] := hl
  clear hsz
  refine lv_aload_n hx hb dJ5_intValue_0 rfl (lv_at hl 0 rfl) ?_
  rw [hq]
  refine va_getX (i := k) (v := fun k => .int (vb_c k)) hx hb (hE.2.2.2.2.2.2.nar hAb).2.2.2.2.2.1.2 hk hS hown (hts _ q335) (fun _ h_ => h_) dJ5_intValue_1 ?_
  rw [hQQ]
  exact rt_i hx hb hr hlk  (()) dJ5_intValue_4 hP hD hS (by first | exact Nat.le_of_ble_eq_true rfl | (simp only [rm_J5_intValue]; omega)) (by first | exact Nat.le_of_ble_eq_true rfl | (simp only [rm_J5_intValue]; omega)) (by rfl)
def rm_X4_seek : Room := ({ frames := 3, cells := 0, slots := 0, locals := 80 } : Room)
set_option maxHeartbeats 400000 in
set_option maxRecDepth 100000 in
theorem t_X4_seek (l : Launch) (G : GG) (b0 sz : Nat) (h b L a : Nat) (a0 : Int32) (hb9 : b ≤ 9) (ha0 : a0 + nI 1 = nI a) (ha : a ≤ 64) (hL1 : 1 ≤ L) (hL : L ≤ 3) : CT l yX4_seek cX4_seek 1 none (rm_X4_seek) G b0 [.ref h] [oX h 3 [.int (nI b), .int (nI L), .int a0]] sz (Rv G (fun (_ : Unit) => True) (fun (_ : Unit) => [oX h 3 [.int (nI b), .int (nI L), .int (nI (nbS b L a))]])) := by
  refine CT.go (by decide) (Nat.le_of_ble_eq_true rfl) (fun p e s m below meth c A ls AR QQ hx hb hr hlk hml hown hnm hts hE hA hAb hsz hP hD hS hl hQQ => ?_)
  have hK := hE.1
  have hown : s.vm.findClass RX4 = some m.cls := hown
  have hl : lv_has ls 1 [(0, .ref h)] := hl
  clear hsz
  refine lv_aload_n hx hb dX4_seek_0 rfl (lv_at hl 0 rfl) ?_
  refine lv_dup hx hb dX4_seek_1 rfl ?_
  refine va_get (D := G.1) (ci := 3) (v := .int a0) (C := RX4) (T := TX4) (N := 3) hx hb hts in_X4 hown hK hP 0 rfl rfl 2 (by decide) (hts _ q205) (fun _ h9 => h9) rfl dX4_seek_2 ?_
  refine lv_iconst (v := nI 1) hx hb dX4_seek_5 (by decide) ?_
  refine lv_iadd hx hb dX4_seek_6 ?_
  refine W.eq (g2 := F0 m 7 ls [.int (nI a), .ref h]) (by rw [← ha0]) ?_
  refine va_put (D := G.1) (ci := 3) (v := .int (nI a)) (ty := .int) (C := RX4) (T := TX4) (N := 3) hx hb hts in_X4 tyX4 tyX4_ok nmX4 hown hK hP hD hS 0 rfl rfl 2 (by decide) (hts _ q205) (fun _ h9 => h9) rfl (by decide +kernel) rfl rfl (Nat.le_of_ble_eq_true rfl) dX4_seek_7 (fun H locs hP hD hS => ?_)
  have hP : va_P G.1 vwCl [oX h 3 [.int (nI b), .int (nI L), .int (nI a)]] _ := hP
  have hD : va_D A [oX h 3 [.int (nI b), .int (nI L), .int (nI a)]] := hD
  have lp_10 : ∀ (n_10 : Nat) (k : Nat), (k ≤ 64) → (nbS b L k = nbS b L a) → (64 - k) < n_10 → ∀ (H : Heap) (locs : List Loc) (ls : Array Slot), va_P G.1 vwCl [oX h 3 [.int (nI b), .int (nI L), .int (nI k)]] H → va_D A [oX h 3 [.int (nI b), .int (nI L), .int (nI k)]] → va_S A s.heap H locs → lv_has ls 1 [(0, .ref h)] → W p l e (rm_X4_seek) s m AR below meth c H locs 0 0 QQ (F0 m 10 ls []) := by
    intro n_10
    induction n_10 with
    | zero => intro k hk0 hj hn_; exact absurd hn_ (Nat.not_lt_zero _)
    | succ n_10 ih_10 =>
      intro k hk0 hj hn_10 H locs ls hP hD hS hl
      refine lv_aload_n hx hb dX4_seek_10 rfl (lv_at hl 0 rfl) ?_
      refine va_get (D := G.1) (ci := 3) (v := .int (nI k)) (C := RX4) (T := TX4) (N := 3) hx hb hts in_X4 hown hK hP 0 rfl rfl 2 (by decide) (hts _ q205) (fun _ h9 => h9) rfl dX4_seek_11 ?_
      refine lv_bipush (v := nI 64) hx hb dX4_seek_14 (by decide) ?_
      refine N_icmp_ge (tgt := 50) hx hb dX4_seek_16 (by decide) (by omega) (by omega) (fun c_16 => ?_) (fun c_16 => ?_)
      · skip
        have e_1 : (k) = (nbS b L a) := by first | exact (nbS_e1 (by omega) (by omega)).symm.trans hj | exact (nbS_e2 (by omega)).symm.trans hj
        rw [e_1] at hP hD
        have hP : va_P G.1 vwCl [oX h 3 [.int (nI b), .int (nI L), .int (nI (nbS b L a))]] _ := hP
        have hD : va_D A [oX h 3 [.int (nI b), .int (nI L), .int (nI (nbS b L a))]] := hD
        rw [hQQ]
        exact rt_v hx hb hr hlk (()) dX4_seek_50 hP hD hS (by first | exact Nat.le_of_ble_eq_true rfl | (simp only [rm_X4_seek]; omega)) (by first | exact Nat.le_of_ble_eq_true rfl | (simp only [rm_X4_seek]; omega)) trivial
      · skip
        have hbc := bndC_le (x := k) hL
        refine lv_aload_n hx hb dX4_seek_19 rfl (lv_at hl 0 rfl) ?_
        refine va_get (D := G.1) (ci := 3) (v := .int (nI k)) (C := RX4) (T := TX4) (N := 3) hx hb hts in_X4 hown hK hP 0 rfl rfl 2 (by decide) (hts _ q205) (fun _ h9 => h9) rfl dX4_seek_20 ?_
        refine lv_aload_n hx hb dX4_seek_23 rfl (lv_at hl 0 rfl) ?_
        refine va_get (D := G.1) (ci := 3) (v := .int (nI L)) (C := RX4) (T := TX4) (N := 3) hx hb hts in_X4 hown hK hP 0 rfl rfl 1 (by decide) (hts _ q204) (fun _ h9 => h9) rfl dX4_seek_24 ?_
        refine fin_i (ws' := (fun (_ : Unit) => [oX h 3 [.int (nI b), .int (nI L), .int (nI k)]])) hA hS hP hD [] rfl [(false, 0)] (fun _ => rfl) (by decide) (run_SN (As := [.int (nI k), .int (nI L)]) (rest := []) (n9 := 2) (host := "CrumbPictures") hx hb hml hown hts hE hAb hl.1 hS hP hD [] rfl (by decide) (t_X1_bandTold l G b0 _ k L (by omega) (by omega)) (lw_meth q199) q197 q106 q198 ⟨by decide, by decide, by decide +kernel⟩ ⟨Nat.le_of_ble_eq_true rfl, Nat.le_of_ble_eq_true rfl⟩ ⟨by first | exact Nat.le_of_ble_eq_true rfl | (simp only [rm_X4_seek, rm_X1_bandTold]; omega), by first | exact Nat.le_of_ble_eq_true rfl | (simp only [rm_X4_seek, rm_X1_bandTold]; omega)⟩ dX4_seek_27 (Nat.le_of_ble_eq_true rfl) rfl rfl) (fun r_2 u_2 H locs h_2 hP hD hS => ?_)
        have hP : va_P G.1 vwCl [oX h 3 [.int (nI b), .int (nI L), .int (nI k)]] _ := hP
        have hD : va_D A [oX h 3 [.int (nI b), .int (nI L), .int (nI k)]] := hD
        have h_2 : r_2 = (nI (bndC k L)) := h_2
        rw [h_2]
        refine lv_aload_n hx hb dX4_seek_30 rfl (lv_at hl 0 rfl) ?_
        refine va_get (D := G.1) (ci := 3) (v := .int (nI b)) (C := RX4) (T := TX4) (N := 3) hx hb hts in_X4 hown hK hP 0 rfl rfl 0 (by decide) (hts _ q203) (fun _ h9 => h9) rfl dX4_seek_31 ?_
        refine N_icmp_eq (tgt := 50) hx hb dX4_seek_34 (by decide) (by omega) (by omega) (fun c_34 => ?_) (fun c_34 => ?_)
        · skip
          have e_3 : (k) = (nbS b L a) := by first | exact (nbS_e1 (by omega) (by omega)).symm.trans hj | exact (nbS_e2 (by omega)).symm.trans hj
          rw [e_3] at hP hD
          have hP : va_P G.1 vwCl [oX h 3 [.int (nI b), .int (nI L), .int (nI (nbS b L a))]] _ := hP
          have hD : va_D A [oX h 3 [.int (nI b), .int (nI L), .int (nI (nbS b L a))]] := hD
          rw [hQQ]
          exact rt_v hx hb hr hlk (()) dX4_seek_50 hP hD hS (by first | exact Nat.le_of_ble_eq_true rfl | (simp only [rm_X4_seek]; omega)) (by first | exact Nat.le_of_ble_eq_true rfl | (simp only [rm_X4_seek]; omega)) trivial
        · skip
          refine lv_aload_n hx hb dX4_seek_37 rfl (lv_at hl 0 rfl) ?_
          refine lv_dup hx hb dX4_seek_38 rfl ?_
          refine va_get (D := G.1) (ci := 3) (v := .int (nI k)) (C := RX4) (T := TX4) (N := 3) hx hb hts in_X4 hown hK hP 0 rfl rfl 2 (by decide) (hts _ q205) (fun _ h9 => h9) rfl dX4_seek_39 ?_
          refine lv_iconst (v := nI 1) hx hb dX4_seek_42 (by decide) ?_
          refine N_iadd hx hb dX4_seek_43 ?_
          refine va_put (D := G.1) (ci := 3) (v := .int (nI (k + 1))) (ty := .int) (C := RX4) (T := TX4) (N := 3) hx hb hts in_X4 tyX4 tyX4_ok nmX4 hown hK hP hD hS 0 rfl rfl 2 (by decide) (hts _ q205) (fun _ h9 => h9) rfl (by decide +kernel) rfl rfl (Nat.le_of_ble_eq_true rfl) dX4_seek_44 (fun H locs hP hD hS => ?_)
          have hP : va_P G.1 vwCl [oX h 3 [.int (nI b), .int (nI L), .int (nI (k + 1))]] _ := hP
          have hD : va_D A [oX h 3 [.int (nI b), .int (nI L), .int (nI (k + 1))]] := hD
          refine lv_goto (tgt := 10) hx hb dX4_seek_47 (by decide) ?_
          have hl : lv_has ls 1 [(0, .ref h)] := lv_sub hl [0] rfl
          exact ih_10 (k + 1) (by omega) (by rw [← hj, nbS_s (show k < 64 by omega), if_neg (by omega)]) (by omega) _ _ _ hP hD hS hl
  have hl : lv_has ls 1 [(0, .ref h)] := lv_sub hl [0] rfl
  exact lp_10 _ a (by omega) (by rfl) (Nat.lt_succ_self _) _ _ _ hP hD hS hl
def rm_X4_init : Room := ({ frames := 4, cells := 0, slots := 0, locals := 110 } : Room)
set_option maxHeartbeats 400000 in
set_option maxRecDepth 100000 in
theorem t_X4_init (l : Launch) (G : GG) (b0 sz : Nat) (h b L : Nat) (hb9 : b ≤ 9) (hL1 : 1 ≤ L) (hL : L ≤ 3) : CT l yX4_init cX4_init 3 none (rm_X4_init) G b0 [.ref h, .int (nI b), .int (nI L)] [oX h 3 [.int (nI 0), .int (nI 0), .int (nI 0)]] sz (Rv G (fun (_ : Unit) => True) (fun (_ : Unit) => [oX h 3 [.int (nI b), .int (nI L), .int (nI (nbS b L 0))]])) := by
  refine CT.go (by decide) (Nat.le_of_ble_eq_true rfl) (fun p e s m below meth c A ls AR QQ hx hb hr hlk hml hown hnm hts hE hA hAb hsz hP hD hS hl hQQ => ?_)
  have hK := hE.1
  have hown : s.vm.findClass RX4 = some m.cls := hown
  have hl : lv_has ls 3 [(0, .ref h), (1, .int (nI b)), (2, .int (nI L))] := hl
  clear hsz
  refine lv_aload_n hx hb dX4_init_0 rfl (lv_at hl 0 rfl) ?_
  refine O_init hx hb (hml.trans hl.1.symm) hown hts q192 q150 q151 dX4_init_1 (Nat.le_of_ble_eq_true rfl) (Nat.le_of_ble_eq_true rfl) ?_
  refine lv_aload_n hx hb dX4_init_4 rfl (lv_at hl 0 rfl) ?_
  refine lv_iconst (v := (-1)) hx hb dX4_init_5 (by decide) ?_
  refine va_put (D := G.1) (ci := 3) (v := .int ((-1))) (ty := .int) (C := RX4) (T := TX4) (N := 3) hx hb hts in_X4 tyX4 tyX4_ok nmX4 hown hK hP hD hS 0 rfl rfl 2 (by decide) (hts _ q205) (fun _ h9 => h9) rfl (by decide +kernel) rfl rfl (Nat.le_of_ble_eq_true rfl) dX4_init_6 (fun H locs hP hD hS => ?_)
  have hP : va_P G.1 vwCl [oX h 3 [.int (nI 0), .int (nI 0), .int ((-1))]] _ := hP
  have hD : va_D A [oX h 3 [.int (nI 0), .int (nI 0), .int ((-1))]] := hD
  refine lv_aload_n hx hb dX4_init_9 rfl (lv_at hl 0 rfl) ?_
  refine lv_iload_n hx hb dX4_init_10 rfl (lv_at hl 1 rfl) ?_
  refine va_putF (D := G.1) (ci := 3) (v := .int (nI b)) (ty := .int) (C := RX4) (T := TX4) (N := 3) hx hb hts in_X4 tyX4 tyX4_ok nmX4 hown hK hP hD hS 0 rfl rfl 0 (by decide) (hts _ q203) (fun _ h9 => h9) rfl hnm rfl (by decide +kernel) rfl rfl (Nat.le_of_ble_eq_true rfl) dX4_init_11 (fun H locs hP hD hS => ?_)
  have hP : va_P G.1 vwCl [oX h 3 [.int (nI b), .int (nI 0), .int ((-1))]] _ := hP
  have hD : va_D A [oX h 3 [.int (nI b), .int (nI 0), .int ((-1))]] := hD
  refine lv_aload_n hx hb dX4_init_14 rfl (lv_at hl 0 rfl) ?_
  refine lv_iload_n hx hb dX4_init_15 rfl (lv_at hl 2 rfl) ?_
  refine va_putF (D := G.1) (ci := 3) (v := .int (nI L)) (ty := .int) (C := RX4) (T := TX4) (N := 3) hx hb hts in_X4 tyX4 tyX4_ok nmX4 hown hK hP hD hS 0 rfl rfl 1 (by decide) (hts _ q204) (fun _ h9 => h9) rfl hnm rfl (by decide +kernel) rfl rfl (Nat.le_of_ble_eq_true rfl) dX4_init_16 (fun H locs hP hD hS => ?_)
  have hP : va_P G.1 vwCl [oX h 3 [.int (nI b), .int (nI L), .int ((-1))]] _ := hP
  have hD : va_D A [oX h 3 [.int (nI b), .int (nI L), .int ((-1))]] := hD
  refine lv_aload_n hx hb dX4_init_19 rfl (lv_at hl 0 rfl) ?_
  refine fin_v (ws' := (fun (_ : Unit) => [oX h 3 [.int (nI b), .int (nI L), .int (nI (nbS b L 0))]])) hA hS hP hD [0] rfl [(true, 0)] (fun _ => rfl) (by decide) (run_V (As := []) (rest := []) (n9 := 0) hx hb hml hown hts hE hAb hl.1 hS hP hD [0] rfl (by decide) (t_X4_seek l G b0 _ h b L 0 ((-1)) (by omega) (by rfl) (by omega) (by omega) (by omega)) (lw_V q193 q195 qs1 q109 q196) 0 rfl rfl ⟨rfl, by decide, by decide, by decide +kernel⟩ ⟨Nat.le_of_ble_eq_true rfl, Nat.le_of_ble_eq_true rfl⟩ ⟨by first | exact Nat.le_of_ble_eq_true rfl | (simp only [rm_X4_init, rm_X4_seek]; omega), by first | exact Nat.le_of_ble_eq_true rfl | (simp only [rm_X4_init, rm_X4_seek]; omega)⟩ dX4_init_20 (Nat.le_of_ble_eq_true rfl) rfl rfl) (fun u_1 H locs h_1 hP hD hS => ?_)
  have hP : va_P G.1 vwCl [oX h 3 [.int (nI b), .int (nI L), .int (nI (nbS b L 0))]] _ := hP
  have hD : va_D A [oX h 3 [.int (nI b), .int (nI L), .int (nI (nbS b L 0))]] := hD
  rw [hQQ]
  exact rt_v hx hb hr hlk (()) dX4_init_23 hP hD hS (by first | exact Nat.le_of_ble_eq_true rfl | (simp only [rm_X4_init]; omega)) (by first | exact Nat.le_of_ble_eq_true rfl | (simp only [rm_X4_init]; omega)) trivial
def rm_X5_init : Room := ({ frames := 1, cells := 0, slots := 0, locals := 20 } : Room)
set_option maxHeartbeats 400000 in
set_option maxRecDepth 100000 in
theorem t_X5_init (l : Launch) (G : GG) (b0 sz : Nat) (h hb_ : Nat) : CT l yX5_init cX5_init 2 none (rm_X5_init) G b0 [.ref h, .ref hb_] [oX h 4 [.null]] sz (Rv G (fun (_ : Unit) => True) (fun (_ : Unit) => [oX h 4 [.ref hb_]])) := by
  refine CT.go (by decide) (Nat.le_of_ble_eq_true rfl) (fun p e s m below meth c A ls AR QQ hx hb hr hlk hml hown hnm hts hE hA hAb hsz hP hD hS hl hQQ => ?_)
  have hK := hE.1
  have hown : s.vm.findClass RX5 = some m.cls := hown
  have hl : lv_has ls 2 [(0, .ref h), (1, .ref hb_)] := hl
  clear hsz
  refine lv_aload_n hx hb dX5_init_0 rfl (lv_at hl 0 rfl) ?_
  refine lv_aload_n hx hb dX5_init_1 rfl (lv_at hl 1 rfl) ?_
  refine va_putF (D := G.1) (ci := 4) (v := .ref hb_) (ty := (.object "CrumbPictures$Band")) (C := RX5) (T := TX5) (N := 1) hx hb hts in_X5 tyX5 tyX5_ok nmX5 hown hK hP hD hS 0 rfl rfl 0 (by decide) (hts _ q224) (fun _ h9 => h9) rfl hnm rfl (by decide +kernel) rfl rfl (Nat.le_of_ble_eq_true rfl) dX5_init_2 (fun H locs hP hD hS => ?_)
  have hP : va_P G.1 vwCl [oX h 4 [.ref hb_]] _ := hP
  have hD : va_D A [oX h 4 [.ref hb_]] := hD
  refine lv_aload_n hx hb dX5_init_5 rfl (lv_at hl 0 rfl) ?_
  refine O_init hx hb (hml.trans hl.1.symm) hown hts q223 q150 q151 dX5_init_6 (Nat.le_of_ble_eq_true rfl) (Nat.le_of_ble_eq_true rfl) ?_
  rw [hQQ]
  exact rt_v hx hb hr hlk (()) dX5_init_9 hP hD hS (by first | exact Nat.le_of_ble_eq_true rfl | (simp only [rm_X5_init]; omega)) (by first | exact Nat.le_of_ble_eq_true rfl | (simp only [rm_X5_init]; omega)) trivial
def rm_X4_iterator : Room := ({ frames := 2, cells := 1, slots := 1, locals := 50 } : Room)
set_option maxHeartbeats 400000 in
set_option maxRecDepth 100000 in
theorem t_X4_iterator (l : Launch) (G : GG) (b0 sz : Nat) (h b L at_ : Nat) : CT l yX4_iterator cX4_iterator 1 (some (FieldType.object "java/util/Iterator")) (rm_X4_iterator) G b0 [.ref h] [oX h 3 [.int (nI b), .int (nI L), .int (nI at_)]] sz (Rr G (fun (u : Nat) => True) (fun (u : Nat) => u) (fun (u : Nat) => [oX h 3 [.int (nI b), .int (nI L), .int (nI at_)], oX u 4 [.ref h]])) := by
  refine CT.go (by decide) (Nat.le_of_ble_eq_true rfl) (fun p e s m below meth c A ls AR QQ hx hb hr hlk hml hown hnm hts hE hA hAb hsz hP hD hS hl hQQ => ?_)
  have hK := hE.1
  have hown : s.vm.findClass RX4 = some m.cls := hown
  have hl : lv_has ls 1 [(0, .ref h)] := hl
  clear hsz
  refine va_new (ci := 4) (fs := [.null]) (C := RX5) (T := TX5) (N := 1) hx hb hts in_X5 tyX5 tyX5_ok hown (hts _ q218) (hts _ q219) (hts _ q110) hK hP hD hS hA rfl (fun j hj => by rcases (show j = 0 by omega) with rfl <;> rfl) (by first | exact Nat.le_of_ble_eq_true rfl | omega) (by first | exact Nat.le_of_ble_eq_true rfl | omega) dX4_iterator_0 (fun q1 H hP hD hS => ?_)
  have hP : va_P G.1 vwCl [oX h 3 [.int (nI b), .int (nI L), .int (nI at_)], oX q1 4 [.null]] _ := hP
  have hD : va_D A [oX h 3 [.int (nI b), .int (nI L), .int (nI at_)], oX q1 4 [.null]] := hD
  refine lv_dup hx hb dX4_iterator_3 rfl ?_
  refine lv_aload_n hx hb dX4_iterator_4 rfl (lv_at hl 0 rfl) ?_
  refine fin_v (ws' := (fun (_ : Unit) => [oX h 3 [.int (nI b), .int (nI L), .int (nI at_)], oX q1 4 [.ref h]])) hA hS hP hD [1] rfl [(false, 0), (true, 0)] (fun _ => rfl) (by decide) (run_I (As := [.ref h]) (rest := [.ref q1]) (n9 := 1) hx hb hml hown hts hE hAb hl.1 hS hP hD [1] rfl (by decide) (t_X5_init l G b0 _ q1 h ) (lw_meth q222) q110 q220 q221 rfl ⟨by decide, by decide, by decide +kernel⟩ ⟨Nat.le_of_ble_eq_true rfl, Nat.le_of_ble_eq_true rfl⟩ ⟨by first | exact Nat.le_of_ble_eq_true rfl | (simp only [rm_X4_iterator, rm_X5_init]; omega), by first | exact Nat.le_of_ble_eq_true rfl | (simp only [rm_X4_iterator, rm_X5_init]; omega)⟩ dX4_iterator_5 (Nat.le_of_ble_eq_true rfl) rfl rfl) (fun u_2 H locs h_2 hP hD hS => ?_)
  have hP : va_P G.1 vwCl [oX h 3 [.int (nI b), .int (nI L), .int (nI at_)], oX q1 4 [.ref h]] _ := hP
  have hD : va_D A [oX h 3 [.int (nI b), .int (nI L), .int (nI at_)], oX q1 4 [.ref h]] := hD
  rw [hQQ]
  exact rt_r hx hb hr hlk (by first | exact Or.inl ⟨_, rfl⟩ | exact Or.inr ⟨_, rfl⟩) q1 dX4_iterator_8 hP hD hS (by first | exact Nat.le_of_ble_eq_true rfl | (simp only [rm_X4_iterator]; omega)) (by first | exact Nat.le_of_ble_eq_true rfl | (simp only [rm_X4_iterator]; omega)) (by rfl) trivial
def rm_X5_hasNext : Room := ({ frames := 0, cells := 0, slots := 0, locals := 0 } : Room)
set_option maxHeartbeats 400000 in
set_option maxRecDepth 100000 in
theorem t_X5_hasNext (l : Launch) (G : GG) (b0 sz : Nat) (h hb_ b L at_ : Nat) (hat : at_ ≤ 64) : CT l yX5_hasNext cX5_hasNext 1 (some FieldType.boolean) (rm_X5_hasNext) G b0 [.ref h] [oX h 4 [.ref hb_], oX hb_ 3 [.int (nI b), .int (nI L), .int (nI at_)]] sz (Ri G (fun (r_ : Int32) (_ : Unit) => r_ = bI (decide (at_ < 64))) (fun (_ : Unit) => [oX h 4 [.ref hb_], oX hb_ 3 [.int (nI b), .int (nI L), .int (nI at_)]])) := by
  refine CT.go (by decide) (Nat.le_of_ble_eq_true rfl) (fun p e s m below meth c A ls AR QQ hx hb hr hlk hml hown hnm hts hE hA hAb hsz hP hD hS hl hQQ => ?_)
  have hK := hE.1
  have hown : s.vm.findClass RX5 = some m.cls := hown
  have hl : lv_has ls 1 [(0, .ref h)] := hl
  clear hsz
  refine lv_aload_n hx hb dX5_hasNext_0 rfl (lv_at hl 0 rfl) ?_
  refine va_get (D := G.1) (ci := 4) (v := .ref hb_) (C := RX5) (T := TX5) (N := 1) hx hb hts in_X5 hown hK hP 0 rfl rfl 0 (by decide) (hts _ q224) (fun _ h9 => h9) rfl dX5_hasNext_1 ?_
  refine va_getN (D := G.1) (ci := 3) (v := .int (nI at_)) (C := RX4) (T := TX4) (N := 3) hx hb hts in_X4 hown hK hP 1 rfl rfl 2 (by decide) (hE.nb q206 rfl) (fun _ h9 => h9) rfl dX5_hasNext_4 ?_
  refine lv_bipush (v := nI 64) hx hb dX5_hasNext_7 (by decide) ?_
  refine N_icmp_ge (tgt := 16) hx hb dX5_hasNext_9 (by decide) (by omega) (by omega) (fun c_9 => ?_) (fun c_9 => ?_)
  · skip
    refine lv_iconst (v := nI 0) hx hb dX5_hasNext_16 (by decide) ?_
    rw [hQQ]
    exact rt_z hx hb hr hlk (by first | exact bI_nar _ | rfl) (()) dX5_hasNext_17 hP hD hS (by first | exact Nat.le_of_ble_eq_true rfl | (simp only [rm_X5_hasNext]; omega)) (by first | exact Nat.le_of_ble_eq_true rfl | (simp only [rm_X5_hasNext]; omega)) (by first | exact bI_of1 (decide_eq_true (by omega)) | exact bI_of0 (decide_eq_false (by omega)))
  · skip
    refine lv_iconst (v := nI 1) hx hb dX5_hasNext_12 (by decide) ?_
    refine lv_goto (tgt := 17) hx hb dX5_hasNext_13 (by decide) ?_
    rw [hQQ]
    exact rt_z hx hb hr hlk (by first | exact bI_nar _ | rfl) (()) dX5_hasNext_17 hP hD hS (by first | exact Nat.le_of_ble_eq_true rfl | (simp only [rm_X5_hasNext]; omega)) (by first | exact Nat.le_of_ble_eq_true rfl | (simp only [rm_X5_hasNext]; omega)) (by first | exact bI_of1 (decide_eq_true (by omega)) | exact bI_of0 (decide_eq_false (by omega)))
def rm_X5_next_2 : Room := ({ frames := 4, cells := 0, slots := 0, locals := 110 } : Room)
set_option maxHeartbeats 400000 in
set_option maxRecDepth 100000 in
theorem t_X5_next_2 (l : Launch) (G : GG) (b0 sz : Nat) (h hb_ b L at_ : Nat) (hb9 : b ≤ 9) (hat : at_ < 64) (hL1 : 1 ≤ L) (hL : L ≤ 3) : CT l yX5_next_2 cX5_next_2 2 (some (FieldType.object "java/lang/Integer")) (rm_X5_next_2) G b0 [.ref h] [oX h 4 [.ref hb_], oX hb_ 3 [.int (nI b), .int (nI L), .int (nI at_)]] sz (Rr G (fun (_ : Unit) => True) (fun (_ : Unit) => G.2.2.2 (at_ + 128)) (fun (_ : Unit) => [oX h 4 [.ref hb_], oX hb_ 3 [.int (nI b), .int (nI L), .int (nI (nbS b L (at_ + 1)))]])) := by
  refine CT.go (by decide) (Nat.le_of_ble_eq_true rfl) (fun p e s m below meth c A ls AR QQ hx hb hr hlk hml hown hnm hts hE hA hAb hsz hP hD hS hl hQQ => ?_)
  have hK := hE.1
  have hown : s.vm.findClass RX5 = some m.cls := hown
  have hl : lv_has ls 2 [(0, .ref h)] := hl
  clear hsz
  refine lv_aload_n hx hb dX5_next_2_0 rfl (lv_at hl 0 rfl) ?_
  refine va_get (D := G.1) (ci := 4) (v := .ref hb_) (C := RX5) (T := TX5) (N := 1) hx hb hts in_X5 hown hK hP 0 rfl rfl 0 (by decide) (hts _ q224) (fun _ h9 => h9) rfl dX5_next_2_1 ?_
  refine va_getN (D := G.1) (ci := 3) (v := .int (nI at_)) (C := RX4) (T := TX4) (N := 3) hx hb hts in_X4 hown hK hP 1 rfl rfl 2 (by decide) (hE.nb q206 rfl) (fun _ h9 => h9) rfl dX5_next_2_4 ?_
  refine lv_bipush (v := nI 64) hx hb dX5_next_2_7 (by decide) ?_
  refine N_icmp_ne (tgt := 20) hx hb dX5_next_2_9 (by decide) (by omega) (by omega) (fun c_9 => ?_) (fun c_9 => ?_)
  · skip
    refine lv_aload_n hx hb dX5_next_2_20 rfl (lv_at hl 0 rfl) ?_
    refine va_get (D := G.1) (ci := 4) (v := .ref hb_) (C := RX5) (T := TX5) (N := 1) hx hb hts in_X5 hown hK hP 0 rfl rfl 0 (by decide) (hts _ q224) (fun _ h9 => h9) rfl dX5_next_2_21 ?_
    refine va_getN (D := G.1) (ci := 3) (v := .int (nI at_)) (C := RX4) (T := TX4) (N := 3) hx hb hts in_X4 hown hK hP 1 rfl rfl 2 (by decide) (hE.nb q206 rfl) (fun _ h9 => h9) rfl dX5_next_2_24 ?_
    refine lv_istore_n (lv' := [(1, .int (nI at_)), (0, .ref h)]) hx hb dX5_next_2_27 rfl hl (by decide) rfl (fun ls hl => ?_)
    refine lv_aload_n hx hb dX5_next_2_28 rfl (lv_at hl 1 rfl) ?_
    refine va_get (D := G.1) (ci := 4) (v := .ref hb_) (C := RX5) (T := TX5) (N := 1) hx hb hts in_X5 hown hK hP 0 rfl rfl 0 (by decide) (hts _ q224) (fun _ h9 => h9) rfl dX5_next_2_29 ?_
    refine fin_v (ws' := (fun (_ : Unit) => [oX h 4 [.ref hb_], oX hb_ 3 [.int (nI b), .int (nI L), .int (nI (nbS b L (at_ + 1)))]])) hA hS hP hD [1] rfl [(false, 0), (true, 0)] (fun _ => rfl) (by decide) (run_VN (As := []) (rest := []) (n9 := 0) (host := "CrumbPictures") hx hb hml hown hts hE hAb hl.1 hS hP hD [1] rfl (by decide) (t_X4_seek l G b0 _ hb_ b L (at_ + 1) (nI at_) (by omega) (by first | rfl | exact nI_add _ _ | exact (nI_add _ _).symm) (by omega) (by omega) (by omega)) (lw_meth q196) q318 q109 q195 qs1 1 rfl rfl ⟨by decide, by decide, by decide +kernel⟩ ⟨Nat.le_of_ble_eq_true rfl, Nat.le_of_ble_eq_true rfl⟩ ⟨by first | exact Nat.le_of_ble_eq_true rfl | (simp only [rm_X5_next_2, rm_X4_seek]; omega), by first | exact Nat.le_of_ble_eq_true rfl | (simp only [rm_X5_next_2, rm_X4_seek]; omega)⟩ dX5_next_2_32 (Nat.le_of_ble_eq_true rfl) rfl rfl) (fun u_1 H locs h_1 hP hD hS => ?_)
    have hP : va_P G.1 vwCl [oX h 4 [.ref hb_], oX hb_ 3 [.int (nI b), .int (nI L), .int (nI (nbS b L (at_ + 1)))]] _ := hP
    have hD : va_D A [oX h 4 [.ref hb_], oX hb_ 3 [.int (nI b), .int (nI L), .int (nI (nbS b L (at_ + 1)))]] := hD
    refine lv_iload_n hx hb dX5_next_2_35 rfl (lv_at hl 0 rfl) ?_
    refine fin_r (ws' := (fun (_ : Unit) => [oX h 4 [.ref hb_], oX hb_ 3 [.int (nI b), .int (nI L), .int (nI (nbS b L (at_ + 1)))]])) hA hS hP hD [] rfl [(false, 0), (false, 1)] (fun _ => rfl) (by decide) (run_S (As := [.int (nI at_)]) (rest := []) (n9 := 1) hx hb hml hown hts hE hAb hl.1 hS hP hD [] rfl (by decide) (t_J5_valueOf l G b0 _ at_ (by omega)) (lw_S q319 q320 q116 q321) ⟨by decide, by decide, by decide +kernel⟩ ⟨Nat.le_of_ble_eq_true rfl, Nat.le_of_ble_eq_true rfl⟩ ⟨by first | exact Nat.le_of_ble_eq_true rfl | (simp only [rm_X5_next_2, rm_J5_valueOf]; omega), by first | exact Nat.le_of_ble_eq_true rfl | (simp only [rm_X5_next_2, rm_J5_valueOf]; omega)⟩ dX5_next_2_36 (Nat.le_of_ble_eq_true rfl) rfl rfl) (fun u_2 H locs h_2 hP hD hS => ?_)
    have hP : va_P G.1 vwCl [oX h 4 [.ref hb_], oX hb_ 3 [.int (nI b), .int (nI L), .int (nI (nbS b L (at_ + 1)))]] _ := hP
    have hD : va_D A [oX h 4 [.ref hb_], oX hb_ 3 [.int (nI b), .int (nI L), .int (nI (nbS b L (at_ + 1)))]] := hD
    refine W.eq (g2 := F0 m 39 ls [.ref (G.2.2.2 (at_ + 128))]) rfl ?_
    rw [hQQ]
    exact rt_r hx hb hr hlk (by first | exact Or.inl ⟨_, rfl⟩ | exact Or.inr ⟨_, rfl⟩) (()) dX5_next_2_39 hP hD hS (by first | exact Nat.le_of_ble_eq_true rfl | (simp only [rm_X5_next_2]; omega)) (by first | exact Nat.le_of_ble_eq_true rfl | (simp only [rm_X5_next_2]; omega)) (by rfl) trivial
  · skip
    exfalso; omega
def rm_X5_next : Room := ({ frames := 5, cells := 0, slots := 0, locals := 140 } : Room)
set_option maxHeartbeats 400000 in
set_option maxRecDepth 100000 in
theorem t_X5_next (l : Launch) (G : GG) (b0 sz : Nat) (h hb_ b L at_ : Nat) (hb9 : b ≤ 9) (hat : at_ < 64) (hL1 : 1 ≤ L) (hL : L ≤ 3) : CT l yX5_next cX5_next 1 (some (FieldType.object "java/lang/Object")) (rm_X5_next) G b0 [.ref h] [oX h 4 [.ref hb_], oX hb_ 3 [.int (nI b), .int (nI L), .int (nI at_)]] sz (Rr G (fun (_ : Unit) => True) (fun (_ : Unit) => G.2.2.2 (at_ + 128)) (fun (_ : Unit) => [oX h 4 [.ref hb_], oX hb_ 3 [.int (nI b), .int (nI L), .int (nI (nbS b L (at_ + 1)))]])) := by
  refine CT.go (by decide) (Nat.le_of_ble_eq_true rfl) (fun p e s m below meth c A ls AR QQ hx hb hr hlk hml hown hnm hts hE hA hAb hsz hP hD hS hl hQQ => ?_)
  have hK := hE.1
  have hown : s.vm.findClass RX5 = some m.cls := hown
  have hl : lv_has ls 1 [(0, .ref h)] := hl
  clear hsz
  refine lv_aload_n hx hb dX5_next_0 rfl (lv_at hl 0 rfl) ?_
  refine fin_r (ws' := (fun (_ : Unit) => [oX h 4 [.ref hb_], oX hb_ 3 [.int (nI b), .int (nI L), .int (nI (nbS b L (at_ + 1)))]])) hA hS hP hD [0, 1] rfl [(true, 0), (true, 1)] (fun _ => rfl) (by decide) (run_V (As := []) (rest := []) (n9 := 0) hx hb hml hown hts hE hAb hl.1 hS hP hD [0, 1] rfl (by decide) (t_X5_next_2 l G b0 _ h hb_ b L at_ (by omega) (by omega) (by omega) (by omega)) (lw_V q247 q248 q249 q110 q250) 0 rfl rfl ⟨rfl, by decide, by decide, by decide +kernel⟩ ⟨Nat.le_of_ble_eq_true rfl, Nat.le_of_ble_eq_true rfl⟩ ⟨by first | exact Nat.le_of_ble_eq_true rfl | (simp only [rm_X5_next, rm_X5_next_2]; omega), by first | exact Nat.le_of_ble_eq_true rfl | (simp only [rm_X5_next, rm_X5_next_2]; omega)⟩ dX5_next_1 (Nat.le_of_ble_eq_true rfl) rfl rfl) (fun u_1 H locs h_1 hP hD hS => ?_)
  have hP : va_P G.1 vwCl [oX h 4 [.ref hb_], oX hb_ 3 [.int (nI b), .int (nI L), .int (nI (nbS b L (at_ + 1)))]] _ := hP
  have hD : va_D A [oX h 4 [.ref hb_], oX hb_ 3 [.int (nI b), .int (nI L), .int (nI (nbS b L (at_ + 1)))]] := hD
  refine W.eq (g2 := F0 m 4 ls [.ref (G.2.2.2 (at_ + 128))]) rfl ?_
  rw [hQQ]
  exact rt_r hx hb hr hlk (by first | exact Or.inl ⟨_, rfl⟩ | exact Or.inr ⟨_, rfl⟩) (()) dX5_next_4 hP hD hS (by first | exact Nat.le_of_ble_eq_true rfl | (simp only [rm_X5_next]; omega)) (by first | exact Nat.le_of_ble_eq_true rfl | (simp only [rm_X5_next]; omega)) (by rfl) trivial
