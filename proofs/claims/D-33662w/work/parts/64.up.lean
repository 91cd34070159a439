/-! ===== the text: inherited and private methods ===== -/
theorem lw_U {own : String} {idx : Nat} {C owner : String} {x y : MethodName} {b : ByteArray} {L : Nat} {r : Option FieldType} (h1 : Cond.methodLink own idx x ∈ lw_all) (h2 : Cond.sameMethod x.cls owner x.name x.desc ∈ lw_all) (h3 : Cond.selects C x y ∈ lw_all) (h4 : Cond.instanceMethod y ∈ lw_all) (h5 : Cond.initialized y.cls ∈ lw_all) (h6 : Cond.code y b L r ∈ lw_all) : GoodIn lw_all (va_wsU own idx C owner x y (ws_ y b L r)) := by
  refine lw_app ?_ (lw_meth h6)
  intro w hw
  simp only [List.mem_cons, List.not_mem_nil, or_false] at hw
  rcases hw with e | e | e | e | e
  · rw [e]; exact h1
  · rw [e]; exact h2
  · rw [e]; exact h3
  · rw [e]; exact h4
  · rw [e]; exact h5
theorem lw_SU {own : String} {idx : Nat} {y : MethodName} {b : ByteArray} {L : Nat} {r : Option FieldType} (h1 : Cond.methodLink own idx y ∈ lw_all) (h2 : Cond.sameMethod y.cls y.cls y.name y.desc ∈ lw_all) (h3 : Cond.superclass own y.cls ∈ lw_all) (h4 : Cond.instanceMethod y ∈ lw_all) (h5 : Cond.initialized y.cls ∈ lw_all) (h6 : Cond.code y b L r ∈ lw_all) : GoodIn lw_all (va_wsSU own idx y (ws_ y b L r)) := by
  refine lw_app ?_ (lw_meth h6)
  intro w hw
  simp only [List.mem_cons, List.not_mem_nil, or_false] at hw
  rcases hw with e | e | e | e | e
  · rw [e]; exact h1
  · rw [e]; exact h2
  · rw [e]; exact h3
  · rw [e]; exact h4
  · rw [e]; exact h5
theorem lw_PV {own : String} {idx : Nat} {y : MethodName} {b : ByteArray} {L : Nat} {r : Option FieldType} (h1 : Cond.methodLink own idx y ∈ lw_all) (h2 : Cond.sameMethod y.cls y.cls y.name y.desc ∈ lw_all) (h4 : Cond.instanceMethod y ∈ lw_all) (h5 : Cond.initialized y.cls ∈ lw_all) (h6 : Cond.code y b L r ∈ lw_all) : GoodIn lw_all (([.methodLink own idx y, .sameMethod y.cls y.cls y.name y.desc, .instanceMethod y, .initialized y.cls] : List Cond) ++ ws_ y b L r) := by
  refine lw_app ?_ (lw_meth h6)
  intro w hw
  simp only [List.mem_cons, List.not_mem_nil, or_false] at hw
  rcases hw with e | e | e | e
  · rw [e]; exact h1
  · rw [e]; exact h2
  · rw [e]; exact h4
  · rw [e]; exact h5
section CLU
variable {p : Program} {l : Launch} {e : Jvm.Env} {R : Room} {s : State} {m : MethodId} {args : Array Value} {below : List Frame} {meth : Method} {c : Code} {H : Heap} {locs : List Loc} {cells slots : Nat} {Q : State → Prop}
variable {cc : ByteArray} {pc : Nat} {ls : Array Slot} {rest : List Value} {A : Nat → Prop} {G : GG} {b0 : Nat}
variable {y : MethodName} {bytes : ByteArray} {maxL nL index : Nat} {rt : Option FieldType} {rm : Room} {own C host : String} {b : Nat} {As : List Value} {wc ws : va_W} {Qc : Qt} {n9 : Nat}
variable {maxLx : Nat} {owner : String} {x : MethodName}
/-- a private method, on a receiver of a class below -/
theorem va_callPV {T : State} {locs : List Loc} {cells slots : Nat} (X : Stand p l e R s m args below meth c T locs cells slots) (hexec : p.tables.exec = Jvm.exec) {own C : String} {index : Nat} {y : MethodName} {bytes : ByteArray} {maxL : Nat} {ret : Option FieldType}
    (hown : s.vm.findClass own = some m.cls) (hlink : (Cond.methodLink own index y).before args s = true) (hsame : (Cond.sameMethod y.cls y.cls y.name y.desc).before args s = true) (hpriv : va_Nw (.privateMethod y) s)
    (hinst : (Cond.instanceMethod y).before args s = true) (hini : (Cond.initialized y.cls).before args s = true) (hcode : (Cond.code y bytes maxL ret).before args s = true) (howner : y.cls ≠ "java/lang/invoke/MethodHandle" ∧ y.cls ≠ "java/lang/invoke/VarHandle")
    {W : Nat} {Pre : Pt → Array Value → Prop} {Post : Pt → Array Value → Option Value → Pt → Prop} (hK : Back l R p e below s args y 3 W Pre Post)
    {b : Addr} {cellB : Cell} (hcell : T.heap[b]? = some cellB) (hobj : cellB.vm.isStatics = false)
    {g : JFrame} (hg : g.method = m) (hsize : g.locals.size = c.maxLocals) {argsL rest : List Value} (hlen : ∀ sig, parseMethodDescriptor y.desc = some sig → argsL.length = sig.parameters.length)
    (hstack : g.stack = argsL.reverse ++ .ref b :: rest) (hW : 2 * g.monitorRoom + (rest.map fun v => v.category).sum ≤ W) (hdg : decode c.code g.pc = .ok (.invokevirtual index, 3))
    (hpre : ∀ vm₁, s.WarmedH vm₁ → Pre ⟨T.setVm vm₁, locs, cells, slots⟩ (Value.ref b :: argsL).toArray) :
    ∃ (v : Option Value) (vm₁ : Vm) (B : Pt), s.WarmedH vm₁ ∧ Stand p l e R s m args below meth c B.U B.locs B.cells B.slots ∧ Post ⟨T.setVm vm₁, locs, cells, slots⟩ (Value.ref b :: argsL).toArray v B ∧
      ∀ target, Steps p.tables e below (B.U.setTop { g with pc := g.pc + 3, stack := v.toList ++ rest }) target → Steps p.tables e below (T.setTop g) target := by
  obtain ⟨mk, methM, hnamed, hmethM, hstM, habM⟩ := Cond.instanceMethod_spec hinst
  obtain ⟨methM', cM, hmethM', -, -, -, -, -, -, hsigM⟩ := Cond.code_spec hnamed hcode
  cases hmethM.symm.trans hmethM'
  obtain ⟨cn, ck, r1, hcn, hck, hni, hf, hn1⟩ := Cond.sameMethod_found hsame
  have hn : s.methodNamed? ⟨y.cls, y.name, y.desc⟩ = some mk := hnamed
  cases hn.symm.trans hn1
  have e1 : cn = mk.cls := Option.some.inj (hcn.symm.trans (findClass_of_methodNamed hnamed))
  rw [e1] at hck
  have hselP : selectMethod e.platform s.vm cellB.cls mk = .method mk := selectMethod_private hmethM (Cond.privateMethod_at hpriv mk methM hnamed hmethM)
  obtain ⟨vm₁, X₁, hstep₁⟩ := X.invokevirtualUp hexec hown hlink hsame howner hn hmethM hstM (a := b) (cell := cellB) hcell
    (fun z h => by rw [h] at hobj; cases hobj) hselP hmethM habM hck hni (g := g) hg (argsL := argsL) (rest := rest) (hlen _ hsigM) hstack hdg
  obtain ⟨v, B, X', hpost, hsteps⟩ := hK m meth c ⟨T.setVm vm₁, locs, cells, slots⟩ { g with stack := rest } (.invokevirtual index) mk (Value.ref b :: argsL).toArray X₁ hg hsize hdg hW (X₁.named hnamed) (hpre vm₁ X₁.warmed)
  exact ⟨v, vm₁, B, X₁.warmed, X', hpost, fun target h => hstep₁ _ fun acts => by rw [doInvoke_state]; exact hsteps.trans h⟩
theorem run_U (hx : p.tables.exec = Jvm.exec) (hb : c.code = cc) (hml : c.maxLocals = nL) (hown : s.vm.findClass own = some m.cls) (hts : ∀ w ∈ lw_all, w.before args s = true) (hE : Env G b0 s) (hAb : ∀ q, A q → b0 ≤ q) (hls : ls.size = nL) (hS : va_S A s.heap H locs) (hP : va_P G.1 vwCl ws H) (hD : va_D A ws)
    (isC : List Nat) (hC : isC.map (fun i => ws[i]?) = wc.map some) (hn : va_nd isC = true) (hM : CT l y bytes maxL rt rm G b0 (.ref b :: As) wc H.size Qc) (hg : GoodIn lw_all (va_wsU own index C y.cls y y (ws_ y bytes maxL rt)))
    (q0 : Nat) {ci : Nat} {fs : List Value} {T : u_T} {N : Nat} (hrv : ws[q0]? = some (b, .inr (ci, fs))) (hci : vwCl[ci]? = some (C, T, N)) (hd : y.cls ≠ "java/lang/invoke/MethodHandle" ∧ y.cls ≠ "java/lang/invoke/VarHandle" ∧ (parseMethodDescriptor y.desc).map (fun d => d.parameters.length) = some n9) (hR : rm.frames + 1 ≤ R.frames ∧ 8 + (maxL + 11) + rm.locals ≤ R.locals)
    (hcs : cells + rm.cells ≤ R.cells ∧ slots + rm.slots ≤ R.slots) (hdg : decode cc pc = .ok (.invokevirtual index, 3)) (h8 : (rest.map fun v => v.category).sum ≤ 8) {st0 : List Value} (hn9 : As.length = n9) (hst : st0 = As.reverse ++ .ref b :: rest) :
    va_Run p l e R s m args below meth c H locs cells slots rm.cells rm.slots (F0 m pc ls st0) rest (Qc (va_A wc H.size) (Value.ref b :: As).toArray) (va_A wc H.size) := by
  subst hst
  refine va_runU (As := As) (rest := rest) (C := C) (owner := y.cls) ⟨hx, hb, hml, hown, hts⟩ hM (va_cwU n9 hts hg rfl rfl rfl rfl hd hR) ⟨Pr.blind, va_recv hE.1 hP hci hrv, preOf isC hC hn hE hAb hS hP hD _⟩ rfl hn9 hls rfl (lv_room h8) hdg hcs
theorem run_SU (hx : p.tables.exec = Jvm.exec) (hb : c.code = cc) (hml : c.maxLocals = nL) (hown : s.vm.findClass own = some m.cls) (hts : ∀ w ∈ lw_all, w.before args s = true) (hE : Env G b0 s) (hAb : ∀ q, A q → b0 ≤ q) (hls : ls.size = nL) (hS : va_S A s.heap H locs) (hP : va_P G.1 vwCl ws H) (hD : va_D A ws)
    (isC : List Nat) (hC : isC.map (fun i => ws[i]?) = wc.map some) (hn : va_nd isC = true) (hM : CT l y bytes maxL rt rm G b0 (.ref b :: As) wc H.size Qc) (hg : GoodIn lw_all (va_wsSU own index y (ws_ y bytes maxL rt)))
    (q0 : Nat) {ci : Nat} {fs : List Value} {T : u_T} {N : Nat} (hrv : ws[q0]? = some (b, .inr (ci, fs))) (hci : vwCl[ci]? = some (C, T, N)) (hd : y.name ≠ "<init>" ∧ (parseMethodDescriptor y.desc).map (fun d => d.parameters.length) = some n9) (hR : rm.frames + 1 ≤ R.frames ∧ 8 + (maxL + 11) + rm.locals ≤ R.locals)
    (hcs : cells + rm.cells ≤ R.cells ∧ slots + rm.slots ≤ R.slots) (hdg : decode cc pc = .ok (.invokespecial index, 3)) (h8 : (rest.map fun v => v.category).sum ≤ 8) {st0 : List Value} (hn9 : As.length = n9) (hst : st0 = As.reverse ++ .ref b :: rest) :
    va_Run p l e R s m args below meth c H locs cells slots rm.cells rm.slots (F0 m pc ls st0) rest (Qc (va_A wc H.size) (Value.ref b :: As).toArray) (va_A wc H.size) := by
  subst hst
  refine va_runSU (As := As) (rest := rest) (C := C) (hE.1.1 _ _ hci).2 ⟨hx, hb, hml, hown, hts⟩ hM (va_cwSU n9 hts hg rfl rfl rfl hd hR) ⟨Pr.blind, va_recv hE.1 hP hci hrv, preOf isC hC hn hE hAb hS hP hD _⟩ rfl hn9 hls rfl (lv_room h8) hdg hcs
theorem run_PV (hx : p.tables.exec = Jvm.exec) (hb : c.code = cc) (hml : c.maxLocals = nL) (hown : s.vm.findClass own = some m.cls) (hts : ∀ w ∈ lw_all, w.before args s = true) (hE : Env G b0 s) (hAb : ∀ q, A q → b0 ≤ q) (hls : ls.size = nL) (hS : va_S A s.heap H locs) (hP : va_P G.1 vwCl ws H) (hD : va_D A ws)
    (isC : List Nat) (hC : isC.map (fun i => ws[i]?) = wc.map some) (hn : va_nd isC = true) (hM : CT l y bytes maxL rt rm G b0 (.ref b :: As) wc H.size Qc) (hg : GoodIn lw_all (([.methodLink own index y, .sameMethod y.cls y.cls y.name y.desc, .instanceMethod y, .initialized y.cls] : List Cond) ++ ws_ y bytes maxL rt)) (hpv : Cond.privateMethod y ∈ lw_tbl)
    (q0 : Nat) {ci : Nat} {fs : List Value} {T : u_T} {N : Nat} (hrv : ws[q0]? = some (b, .inr (ci, fs))) (hci : vwCl[ci]? = some (C, T, N)) (hd : y.cls ≠ "java/lang/invoke/MethodHandle" ∧ y.cls ≠ "java/lang/invoke/VarHandle" ∧ (parseMethodDescriptor y.desc).map (fun d => d.parameters.length) = some n9) (hR : rm.frames + 1 ≤ R.frames ∧ 8 + (maxL + 11) + rm.locals ≤ R.locals)
    (hcs : cells + rm.cells ≤ R.cells ∧ slots + rm.slots ≤ R.slots) (hdg : decode cc pc = .ok (.invokevirtual index, 3)) (h8 : (rest.map fun v => v.category).sum ≤ 8) {st0 : List Value} (hn9 : As.length = n9) (hst : st0 = As.reverse ++ .ref b :: rest) :
    va_Run p l e R s m args below meth c H locs cells slots rm.cells rm.slots (F0 m pc ls st0) rest (Qc (va_A wc H.size) (Value.ref b :: As).toArray) (va_A wc H.size) := by
  subst hst
  have ok : ∀ w ∈ (([.methodLink own index y, .sameMethod y.cls y.cls y.name y.desc, .instanceMethod y, .initialized y.cls] : List Cond) ++ ws_ y bytes maxL rt), w.before args s = true := fun w h => hts w (hg w h).1
  have hG : GoodIn lw_all (ws_ y bytes maxL rt) := fun w h => hg w (List.mem_append_right _ h)
  have hcm : Cond.code y bytes maxL rt ∈ ws_ y bytes maxL rt := List.mem_cons_self
  have hini : (Cond.initialized y.cls).before args s = true := ok _ (by simp)
  have hK : Back l R p e below s args y 3 8 (PreOf R rm.cells rm.slots (va_Pc (.ref b :: As) (Pr G b0 wc H.size))) (PostOf (Qc (va_A wc H.size)) rm.cells rm.slots (va_A wc H.size)) := back_of (bytes := bytes) (maxL := maxL) (ret := rt) hM Pr.blind rfl rfl hR.1 hR.2 (pay_in hts hG) hcm (fun a' U hW => word_at hW (Or.inl (by first | rfl | simp [Cond.onTables, Cond.keeps, Cond.steady])) hini)
  obtain ⟨cellB, hcB, hoB, hclB⟩ := va_recv hE.1 hP hci hrv
  have hPc := preOf isC hC hn hE hAb hS hP hD (.ref b :: As)
  intro T hT X
  obtain ⟨v, vm₁, ⟨U', l2, c2, s2⟩, hW₁, X', ⟨g', mk, t, L, e1, e2, hq, h1, hL, h2, h3⟩, st⟩ := va_callPV X hx (C := C) (own := own) (index := index) (bytes := bytes) (maxL := maxL) (ret := rt) hown (ok _ (by simp)) (ok _ (by simp)) (hE.2.2.1 _ hpv rfl) (ok _ (by simp)) hini (hts _ (hG _ hcm).1) ⟨hd.1, hd.2.1⟩ hK (by rw [hT]; exact hcB) hoB rfl (hls.trans hml.symm) (argsL := As) (rest := rest) (fun sig h => by have h2 := hd.2.2; rw [h] at h2; exact hn9.trans (Option.some.inj h2).symm) rfl (lv_room h8) (by rw [hb]; exact hdg)
    (fun vm₁ hW₁ => ⟨hcs.1, hcs.2, hPc (T.setVm vm₁) hT hW₁⟩)
  dsimp only [Pt.U, Pt.locs, Pt.cells, Pt.slots] at X' e1 e2 h1 h2 h3 st
  subst h1; subst h2; subst h3
  exact ⟨v, (T.setVm vm₁).calling g' mk (Value.ref b :: As).toArray, t, U', L, hT, X', hL, e1, e2, hq, st⟩
end CLU
