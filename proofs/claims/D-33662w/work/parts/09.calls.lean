/-! ===== PRELUDE 2: calls ===== -/
section CL
variable {p : Program} {l : Launch} {e : Jvm.Env} {R : Room} {s : State} {m : MethodId} {args : Array Value} {below : List Frame} {meth : Method} {c : Code} {H : Heap} {locs : List Loc} {cells slots : Nat} {Q : State → Prop}
variable {cc : ByteArray} {pc : Nat} {ls : Array Slot} {rest : List Value} {A : Nat → Prop} {G : GG} {b0 : Nat}
variable {y : MethodName} {bytes : ByteArray} {maxL nL index : Nat} {rt : Option FieldType} {rm : Room} {own C host : String} {b : Nat} {As : List Value} {wc ws : va_W} {Qc : Qt} {n9 : Nat}
theorem dlow {w : va_W} (hD : va_D A w) (hAb : ∀ q, A q → b0 ≤ q) : va_D (fun q => b0 ≤ q) w := hD.weaken (fun _ _ _ h => hAb _ h)
theorem cutP {D : va_G} {cl : List vw_C} (isC : List Nat) (hC : isC.map (fun i => ws[i]?) = wc.map some) (hP : va_P D cl ws H) : va_P D cl wc H := by
  intro k q hq
  have h1 : (isC.map (fun i => ws[i]?))[k]? = some (some q) := by rw [hC, List.getElem?_map, hq]; rfl
  rw [List.getElem?_map] at h1
  cases hi : isC[k]? with
  | none => rw [hi] at h1; cases h1
  | some i => rw [hi] at h1; exact hP i q (Option.some.inj h1)
theorem cutD {A : Nat → Prop} (isC : List Nat) (hC : isC.map (fun i => ws[i]?) = wc.map some) (hn : va_nd isC = true) (hD : va_D A ws) : va_D A wc := by
  have at' : ∀ (k : Nat) (q : Nat × va_E), wc[k]? = some q → ∃ i, isC[k]? = some i ∧ ws[i]? = some q := by
    intro k q hq
    have h1 : (isC.map (fun i => ws[i]?))[k]? = some (some q) := by rw [hC, List.getElem?_map, hq]; rfl
    rw [List.getElem?_map] at h1
    cases hi : isC[k]? with
    | none => rw [hi] at h1; cases h1
    | some i => rw [hi] at h1; exact ⟨i, rfl, Option.some.inj h1⟩
  refine ⟨fun i j x y hi hj hxy => ?_, fun k q hk => ?_⟩
  · obtain ⟨a, h1, h2⟩ := at' i x hi
    obtain ⟨b, h3, h4⟩ := at' j y hj
    have hab := hD.1 a b x y h2 h4 hxy
    subst hab
    exact va_nd_inj isC hn i j a h1 h3
  · obtain ⟨a, -, h2⟩ := at' k q hk
    exact hD.2 a q h2
/-- a callee's start holds: its cells are cut out of the caller's -/
theorem preOf (isC : List Nat) (hC : isC.map (fun i => ws[i]?) = wc.map some) (hn : va_nd isC = true) (hE : Env G b0 s) (hAb : ∀ q, A q → b0 ≤ q) (hS : va_S A s.heap H locs) (hP : va_P G.1 vwCl ws H) (hD : va_D A ws) (av : List Value) : ∀ U : State, U.heap = H → s.WarmedH U.vm → va_Pc av (Pr G b0 wc H.size) av.toArray U := by
  intro U hU hW
  exact ⟨rfl, by rw [hU], by rw [hU]; exact cutP isC hC hP, dlow (cutD isC hC hn hD) hAb, hE.warm hW hU hS hAb⟩
theorem run_V (hx : p.tables.exec = Jvm.exec) (hb : c.code = cc) (hml : c.maxLocals = nL) (hown : s.vm.findClass own = some m.cls) (hts : ∀ w ∈ lw_all, w.before args s = true) (hE : Env G b0 s) (hAb : ∀ q, A q → b0 ≤ q) (hls : ls.size = nL) (hS : va_S A s.heap H locs) (hP : va_P G.1 vwCl ws H) (hD : va_D A ws)
    (isC : List Nat) (hC : isC.map (fun i => ws[i]?) = wc.map some) (hn : va_nd isC = true) (hM : CT l y bytes maxL rt rm G b0 (.ref b :: As) wc H.size Qc) (hg : GoodIn lw_all (wsV own index C y (ws_ y bytes maxL rt)))
    (q0 : Nat) {ci : Nat} {fs : List Value} {T : u_T} {N : Nat} (hrv : ws[q0]? = some (b, .inr (ci, fs))) (hci : vwCl[ci]? = some (C, T, N)) (hd : y.cls = C ∧ y.cls ≠ "java/lang/invoke/MethodHandle" ∧ y.cls ≠ "java/lang/invoke/VarHandle" ∧ (parseMethodDescriptor y.desc).map (fun d => d.parameters.length) = some n9) (hR : rm.frames + 1 ≤ R.frames ∧ 8 + (maxL + 11) + rm.locals ≤ R.locals)
    (hcs : cells + rm.cells ≤ R.cells ∧ slots + rm.slots ≤ R.slots) (hdg : decode cc pc = .ok (.invokevirtual index, 3)) (h8 : (rest.map fun v => v.category).sum ≤ 8) {st0 : List Value} (hn9 : As.length = n9) (hst : st0 = As.reverse ++ .ref b :: rest) :
    va_Run p l e R s m args below meth c H locs cells slots rm.cells rm.slots (F0 m pc ls st0) rest (Qc (va_A wc H.size) (Value.ref b :: As).toArray) (va_A wc H.size) := by
  subst hst
  refine va_runV (As := As) (rest := rest) (C := C) ⟨hx, hb, hml, hown, hts⟩ hM (cwV n9 hts hg rfl rfl rfl hd hR) ⟨Pr.blind, va_recv hE.1 hP hci hrv, preOf isC hC hn hE hAb hS hP hD _⟩ rfl hn9 hls rfl (lv_room h8) hdg hcs
theorem run_S (hx : p.tables.exec = Jvm.exec) (hb : c.code = cc) (hml : c.maxLocals = nL) (hown : s.vm.findClass own = some m.cls) (hts : ∀ w ∈ lw_all, w.before args s = true) (hE : Env G b0 s) (hAb : ∀ q, A q → b0 ≤ q) (hls : ls.size = nL) (hS : va_S A s.heap H locs) (hP : va_P G.1 vwCl ws H) (hD : va_D A ws)
    (isC : List Nat) (hC : isC.map (fun i => ws[i]?) = wc.map some) (hn : va_nd isC = true) (hM : CT l y bytes maxL rt rm G b0 As wc H.size Qc) (hg : GoodIn lw_all (va_wsS own index y (ws_ y bytes maxL rt)))
    (hd : y.cls ≠ "java/lang/invoke/MethodHandle" ∧ y.cls ≠ "java/lang/invoke/VarHandle" ∧ (parseMethodDescriptor y.desc).map (fun d => d.parameters.length) = some n9) (hR : rm.frames + 1 ≤ R.frames ∧ 8 + (maxL + 11) + rm.locals ≤ R.locals)
    (hcs : cells + rm.cells ≤ R.cells ∧ slots + rm.slots ≤ R.slots) (hdg : decode cc pc = .ok (.invokestatic index, 3)) (h8 : (rest.map fun v => v.category).sum ≤ 8) {st0 : List Value} (hn9 : As.length = n9) (hst : st0 = As.reverse ++ rest) :
    va_Run p l e R s m args below meth c H locs cells slots rm.cells rm.slots (F0 m pc ls st0) rest (Qc (va_A wc H.size) As.toArray) (va_A wc H.size) := by
  subst hst
  refine va_runS (As := As) (rest := rest) ⟨hx, hb, hml, hown, hts⟩ hM (va_cwS n9 hts hg rfl rfl rfl hd hR) ⟨Pr.blind, preOf isC hC hn hE hAb hS hP hD _⟩ rfl hn9 hls rfl (lv_room h8) hdg hcs
theorem run_I (hx : p.tables.exec = Jvm.exec) (hb : c.code = cc) (hml : c.maxLocals = nL) (hown : s.vm.findClass own = some m.cls) (hts : ∀ w ∈ lw_all, w.before args s = true) (hE : Env G b0 s) (hAb : ∀ q, A q → b0 ≤ q) (hls : ls.size = nL) (hS : va_S A s.heap H locs) (hP : va_P G.1 vwCl ws H) (hD : va_D A ws)
    (isC : List Nat) (hC : isC.map (fun i => ws[i]?) = wc.map some) (hn : va_nd isC = true) (hM : CT l y bytes maxL none rm G b0 (.ref b :: As) wc H.size Qc) (hg : GoodIn lw_all (ws_ y bytes maxL none)) (hini : Cond.initialized y.cls ∈ lw_all) (hlk : Cond.methodLink own index y ∈ lw_all) (him : Cond.instanceMethod y ∈ lw_all)
    (hy1 : y.name = "<init>") (hd : y.cls ≠ "java/lang/invoke/MethodHandle" ∧ y.cls ≠ "java/lang/invoke/VarHandle" ∧ (parseMethodDescriptor y.desc).map (fun d => d.parameters.length) = some n9) (hR : rm.frames + 1 ≤ R.frames ∧ 8 + (maxL + 11) + rm.locals ≤ R.locals)
    (hcs : cells + rm.cells ≤ R.cells ∧ slots + rm.slots ≤ R.slots) (hdg : decode cc pc = .ok (.invokespecial index, 3)) (h8 : (rest.map fun v => v.category).sum ≤ 8) {st0 : List Value} (hn9 : As.length = n9) (hst : st0 = As.reverse ++ .ref b :: rest) :
    va_Run p l e R s m args below meth c H locs cells slots rm.cells rm.slots (F0 m pc ls st0) rest (Qc (va_A wc H.size) (Value.ref b :: As).toArray) (va_A wc H.size) := by
  subst hst
  refine va_runI (As := As) (rest := rest) ⟨hx, hb, hml, hown, hts⟩ hM (cwI n9 hts hg rfl rfl rfl (hts _ hini) (hts _ hlk) (hts _ him) hy1 hd hR) ⟨Pr.blind, preOf isC hC hn hE hAb hS hP hD _⟩ rfl hn9 hls rfl (lv_room h8) hdg hcs
theorem run_VN (hx : p.tables.exec = Jvm.exec) (hb : c.code = cc) (hml : c.maxLocals = nL) (hown : s.vm.findClass own = some m.cls) (hts : ∀ w ∈ lw_all, w.before args s = true) (hE : Env G b0 s) (hAb : ∀ q, A q → b0 ≤ q) (hls : ls.size = nL) (hS : va_S A s.heap H locs) (hP : va_P G.1 vwCl ws H) (hD : va_D A ws)
    (isC : List Nat) (hC : isC.map (fun i => ws[i]?) = wc.map some) (hn : va_nd isC = true) (hM : CT l y bytes maxL rt rm G b0 (.ref b :: As) wc H.size Qc) (hg : GoodIn lw_all (ws_ y bytes maxL rt)) (hlk : Cond.methodLinkNest own index y host ∈ lw_tbl) (hini : Cond.initialized y.cls ∈ lw_all) (him : Cond.instanceMethod y ∈ lw_all) (hsel : Cond.selects C y y ∈ lw_all)
    (q0 : Nat) {ci : Nat} {fs : List Value} {T : u_T} {N : Nat} (hrv : ws[q0]? = some (b, .inr (ci, fs))) (hci : vwCl[ci]? = some (C, T, N)) (hd : y.cls ≠ "java/lang/invoke/MethodHandle" ∧ y.cls ≠ "java/lang/invoke/VarHandle" ∧ (parseMethodDescriptor y.desc).map (fun d => d.parameters.length) = some n9) (hR : rm.frames + 1 ≤ R.frames ∧ 8 + (maxL + 11) + rm.locals ≤ R.locals)
    (hcs : cells + rm.cells ≤ R.cells ∧ slots + rm.slots ≤ R.slots) (hdg : decode cc pc = .ok (.invokevirtual index, 3)) (h8 : (rest.map fun v => v.category).sum ≤ 8) {st0 : List Value} (hn9 : As.length = n9) (hst : st0 = As.reverse ++ .ref b :: rest) :
    va_Run p l e R s m args below meth c H locs cells slots rm.cells rm.slots (F0 m pc ls st0) rest (Qc (va_A wc H.size) (Value.ref b :: As).toArray) (va_A wc H.size) := by
  subst hst
  refine va_runVN (As := As) (rest := rest) (C := C) ⟨hx, hb, hml, hown, hts⟩ hM ⟨va_cnB n9 hts hg rfl rfl rfl (hE.2.2.1 _ hlk rfl) (hts _ hini) hd hR, hts _ him, hts _ hsel⟩ ⟨Pr.blind, va_recv hE.1 hP hci hrv, preOf isC hC hn hE hAb hS hP hD _⟩ rfl hn9 hls rfl (lv_room h8) hdg hcs
theorem run_SN (hx : p.tables.exec = Jvm.exec) (hb : c.code = cc) (hml : c.maxLocals = nL) (hown : s.vm.findClass own = some m.cls) (hts : ∀ w ∈ lw_all, w.before args s = true) (hE : Env G b0 s) (hAb : ∀ q, A q → b0 ≤ q) (hls : ls.size = nL) (hS : va_S A s.heap H locs) (hP : va_P G.1 vwCl ws H) (hD : va_D A ws)
    (isC : List Nat) (hC : isC.map (fun i => ws[i]?) = wc.map some) (hn : va_nd isC = true) (hM : CT l y bytes maxL rt rm G b0 As wc H.size Qc) (hg : GoodIn lw_all (ws_ y bytes maxL rt)) (hlk : Cond.methodLinkNest own index y host ∈ lw_tbl) (hini : Cond.initialized y.cls ∈ lw_all) (hst1 : Cond.static y ∈ lw_all)
    (hd : y.cls ≠ "java/lang/invoke/MethodHandle" ∧ y.cls ≠ "java/lang/invoke/VarHandle" ∧ (parseMethodDescriptor y.desc).map (fun d => d.parameters.length) = some n9) (hR : rm.frames + 1 ≤ R.frames ∧ 8 + (maxL + 11) + rm.locals ≤ R.locals)
    (hcs : cells + rm.cells ≤ R.cells ∧ slots + rm.slots ≤ R.slots) (hdg : decode cc pc = .ok (.invokestatic index, 3)) (h8 : (rest.map fun v => v.category).sum ≤ 8) {st0 : List Value} (hn9 : As.length = n9) (hst : st0 = As.reverse ++ rest) :
    va_Run p l e R s m args below meth c H locs cells slots rm.cells rm.slots (F0 m pc ls st0) rest (Qc (va_A wc H.size) As.toArray) (va_A wc H.size) := by
  subst hst
  refine va_runSN (As := As) (rest := rest) ⟨hx, hb, hml, hown, hts⟩ hM ⟨va_cnB n9 hts hg rfl rfl rfl (hE.2.2.1 _ hlk rfl) (hts _ hini) hd hR, hts _ hst1, trivial⟩ ⟨Pr.blind, preOf isC hC hn hE hAb hS hP hD _⟩ rfl hn9 hls rfl (lv_room h8) hdg hcs
theorem run_IN (hx : p.tables.exec = Jvm.exec) (hb : c.code = cc) (hml : c.maxLocals = nL) (hown : s.vm.findClass own = some m.cls) (hts : ∀ w ∈ lw_all, w.before args s = true) (hE : Env G b0 s) (hAb : ∀ q, A q → b0 ≤ q) (hls : ls.size = nL) (hS : va_S A s.heap H locs) (hP : va_P G.1 vwCl ws H) (hD : va_D A ws)
    (isC : List Nat) (hC : isC.map (fun i => ws[i]?) = wc.map some) (hn : va_nd isC = true) (hM : CT l y bytes maxL none rm G b0 (.ref b :: As) wc H.size Qc) (hg : GoodIn lw_all (ws_ y bytes maxL none)) (hlk : Cond.methodLinkNest own index y host ∈ lw_tbl) (hini : Cond.initialized y.cls ∈ lw_all) (him : Cond.instanceMethod y ∈ lw_all)
    (hy1 : y.name = "<init>") (hd : y.cls ≠ "java/lang/invoke/MethodHandle" ∧ y.cls ≠ "java/lang/invoke/VarHandle" ∧ (parseMethodDescriptor y.desc).map (fun d => d.parameters.length) = some n9) (hR : rm.frames + 1 ≤ R.frames ∧ 8 + (maxL + 11) + rm.locals ≤ R.locals)
    (hcs : cells + rm.cells ≤ R.cells ∧ slots + rm.slots ≤ R.slots) (hdg : decode cc pc = .ok (.invokespecial index, 3)) (h8 : (rest.map fun v => v.category).sum ≤ 8) {st0 : List Value} (hn9 : As.length = n9) (hst : st0 = As.reverse ++ .ref b :: rest) :
    va_Run p l e R s m args below meth c H locs cells slots rm.cells rm.slots (F0 m pc ls st0) rest (Qc (va_A wc H.size) (Value.ref b :: As).toArray) (va_A wc H.size) := by
  subst hst
  refine va_runIN (As := As) (rest := rest) ⟨hx, hb, hml, hown, hts⟩ hM ⟨va_cnB n9 hts hg rfl rfl rfl (hE.2.2.1 _ hlk rfl) (hts _ hini) hd hR, hy1, hts _ him⟩ ⟨Pr.blind, preOf isC hC hn hE hAb hS hP hD _⟩ rfl hn9 hls rfl (lv_room h8) hdg hcs
/-! behind the call -/
section FIN
variable {S : Type} {wp ws' : S → va_W} {mc ms : Nat} {st0 : List Value} {a9 : Array Value}
theorem fr_free (isC : List Nat) (hC : isC.map (fun i => ws[i]?) = wc.map some) (hA : ∀ q, s.heap.size ≤ q → A q) (hS : va_S A s.heap H locs) (hD : va_D A ws) : ∀ q, va_A wc H.size q → A q := va_free hD hS hA isC hC
theorem fin_i {post : Int32 → S → Prop} (hA : ∀ q, s.heap.size ≤ q → A q) (hS : va_S A s.heap H locs) (hP : va_P G.1 vwCl ws H) (hD : va_D A ws) (isC : List Nat) (hC : isC.map (fun i => ws[i]?) = wc.map some) (sel : List (Bool × Nat)) (hsel : ∀ u, sel.map (fun q => if q.1 = true then (wp u)[q.2]? else ws[q.2]?) = (ws' u).map some) (hok : selOk isC sel = true)
    (hr : va_Run p l e R s m args below meth c H locs cells slots mc ms (F0 m pc ls st0) rest (Ri G post wp (va_A wc H.size) a9) (va_A wc H.size))
    (kk : ∀ (r : Int32) (u : S) (H1 : Heap) (locs1 : List Loc), post r u → va_P G.1 vwCl (ws' u) H1 → va_D A (ws' u) → va_S A s.heap H1 locs1 → W p l e R s m args below meth c H1 locs1 (cells + mc) (slots + ms) Q (F0 m (pc + 3) ls (.int r :: rest))) : W p l e R s m args below meth c H locs cells slots Q (F0 m pc ls st0) := by
  have hF := fr_free isC hC hA hS hD
  refine va_calli hr hS (fun q _ h => hF q h) hF (fun r u t H1 locs1 ht hvm hw hB hz1 hk1 hS1 => ?_)
  obtain ⟨hP1, hD1⟩ := hB
  rw [ht] at hP1
  obtain ⟨hP2, hD2⟩ := fr_sel isC sel hC (hsel u) hok hP hD hk1 hF hP1 hD1
  exact kk r u H1 locs1 hw hP2 hD2 hS1
theorem fin_l {post : Int64 → S → Prop} (hA : ∀ q, s.heap.size ≤ q → A q) (hS : va_S A s.heap H locs) (hP : va_P G.1 vwCl ws H) (hD : va_D A ws) (isC : List Nat) (hC : isC.map (fun i => ws[i]?) = wc.map some) (sel : List (Bool × Nat)) (hsel : ∀ u, sel.map (fun q => if q.1 = true then (wp u)[q.2]? else ws[q.2]?) = (ws' u).map some) (hok : selOk isC sel = true)
    (hr : va_Run p l e R s m args below meth c H locs cells slots mc ms (F0 m pc ls st0) rest (Rl G post wp (va_A wc H.size) a9) (va_A wc H.size))
    (kk : ∀ (r : Int64) (u : S) (H1 : Heap) (locs1 : List Loc), post r u → va_P G.1 vwCl (ws' u) H1 → va_D A (ws' u) → va_S A s.heap H1 locs1 → W p l e R s m args below meth c H1 locs1 (cells + mc) (slots + ms) Q (F0 m (pc + 3) ls (.long r :: rest))) : W p l e R s m args below meth c H locs cells slots Q (F0 m pc ls st0) := by
  have hF := fr_free isC hC hA hS hD
  refine va_calll hr hS (fun q _ h => hF q h) hF (fun r u t H1 locs1 ht hvm hw hB hz1 hk1 hS1 => ?_)
  obtain ⟨hP1, hD1⟩ := hB
  rw [ht] at hP1
  obtain ⟨hP2, hD2⟩ := fr_sel isC sel hC (hsel u) hok hP hD hk1 hF hP1 hD1
  exact kk r u H1 locs1 hw hP2 hD2 hS1
theorem fin_d {post : UInt64 → S → Prop} (hA : ∀ q, s.heap.size ≤ q → A q) (hS : va_S A s.heap H locs) (hP : va_P G.1 vwCl ws H) (hD : va_D A ws) (isC : List Nat) (hC : isC.map (fun i => ws[i]?) = wc.map some) (sel : List (Bool × Nat)) (hsel : ∀ u, sel.map (fun q => if q.1 = true then (wp u)[q.2]? else ws[q.2]?) = (ws' u).map some) (hok : selOk isC sel = true)
    (hr : va_Run p l e R s m args below meth c H locs cells slots mc ms (F0 m pc ls st0) rest (Rd G post wp (va_A wc H.size) a9) (va_A wc H.size))
    (kk : ∀ (r : UInt64) (u : S) (H1 : Heap) (locs1 : List Loc), post r u → va_P G.1 vwCl (ws' u) H1 → va_D A (ws' u) → va_S A s.heap H1 locs1 → W p l e R s m args below meth c H1 locs1 (cells + mc) (slots + ms) Q (F0 m (pc + 3) ls (.double r :: rest))) : W p l e R s m args below meth c H locs cells slots Q (F0 m pc ls st0) := by
  have hF := fr_free isC hC hA hS hD
  refine va_calld hr hS (fun q _ h => hF q h) hF (fun r u t H1 locs1 ht hvm hw hB hz1 hk1 hS1 => ?_)
  obtain ⟨hP1, hD1⟩ := hB
  rw [ht] at hP1
  obtain ⟨hP2, hD2⟩ := fr_sel isC sel hC (hsel u) hok hP hD hk1 hF hP1 hD1
  exact kk r u H1 locs1 hw hP2 hD2 hS1
theorem fin_v {post : S → Prop} (hA : ∀ q, s.heap.size ≤ q → A q) (hS : va_S A s.heap H locs) (hP : va_P G.1 vwCl ws H) (hD : va_D A ws) (isC : List Nat) (hC : isC.map (fun i => ws[i]?) = wc.map some) (sel : List (Bool × Nat)) (hsel : ∀ u, sel.map (fun q => if q.1 = true then (wp u)[q.2]? else ws[q.2]?) = (ws' u).map some) (hok : selOk isC sel = true)
    (hr : va_Run p l e R s m args below meth c H locs cells slots mc ms (F0 m pc ls st0) rest (Rv G post wp (va_A wc H.size) a9) (va_A wc H.size))
    (kk : ∀ (u : S) (H1 : Heap) (locs1 : List Loc), post u → va_P G.1 vwCl (ws' u) H1 → va_D A (ws' u) → va_S A s.heap H1 locs1 → W p l e R s m args below meth c H1 locs1 (cells + mc) (slots + ms) Q (F0 m (pc + 3) ls rest)) : W p l e R s m args below meth c H locs cells slots Q (F0 m pc ls st0) := by
  have hF := fr_free isC hC hA hS hD
  refine va_callv hr hS (fun q _ h => hF q h) hF (fun u t H1 locs1 ht hvm hw hB hz1 hk1 hS1 => ?_)
  obtain ⟨hP1, hD1⟩ := hB
  rw [ht] at hP1
  obtain ⟨hP2, hD2⟩ := fr_sel isC sel hC (hsel u) hok hP hD hk1 hF hP1 hD1
  exact kk u H1 locs1 hw hP2 hD2 hS1
theorem fin_r {post : S → Prop} {ra : S → Nat} (hA : ∀ q, s.heap.size ≤ q → A q) (hS : va_S A s.heap H locs) (hP : va_P G.1 vwCl ws H) (hD : va_D A ws) (isC : List Nat) (hC : isC.map (fun i => ws[i]?) = wc.map some) (sel : List (Bool × Nat)) (hsel : ∀ u, sel.map (fun q => if q.1 = true then (wp u)[q.2]? else ws[q.2]?) = (ws' u).map some) (hok : selOk isC sel = true)
    (hr : va_Run p l e R s m args below meth c H locs cells slots mc ms (F0 m pc ls st0) rest (Rr G post ra wp (va_A wc H.size) a9) (va_A wc H.size))
    (kk : ∀ (u : S) (H1 : Heap) (locs1 : List Loc), post u → va_P G.1 vwCl (ws' u) H1 → va_D A (ws' u) → va_S A s.heap H1 locs1 → W p l e R s m args below meth c H1 locs1 (cells + mc) (slots + ms) Q (F0 m (pc + 3) ls (.ref (ra u) :: rest))) : W p l e R s m args below meth c H locs cells slots Q (F0 m pc ls st0) := by
  have hF := fr_free isC hC hA hS hD
  refine va_callr hr hS (fun q _ h => hF q h) hF (fun u r t H1 locs1 ht hvm hw hB hz1 hk1 hS1 => ?_)
  obtain ⟨rfl, hP1, hD1⟩ := hB
  rw [ht] at hP1
  obtain ⟨hP2, hD2⟩ := fr_sel isC sel hC (hsel u) hok hP hD hk1 hF hP1 hD1
  exact kk u H1 locs1 hw hP2 hD2 hS1
end FIN
end CL
