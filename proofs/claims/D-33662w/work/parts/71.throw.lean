/-! ===== exceptions: contracts of methods that throw ===== -/
abbrev XQ (below : List Frame) (G : GG) (E : String) {S : Type} (px : S → Prop) (wp : S → va_W) (AR : Array Value) (s : State) (mc ms : Nat) (A : Nat → Prop) : State → Prop := vx_MQ below (fun _ _ _ _ => False) (vx_X px (fun E' u t => E' = E ∧ Po G (wp u) A t) A) AR s mc ms A
abbrev CTX (l : Launch) (y : MethodName) (cc : ByteArray) (mL : Nat) (rt : Option FieldType) (rm : Room) (G : GG) (b0 : Nat) (av : List Value) (w : va_W) (sz : Nat) (E : String) {S : Type} (px : S → Prop) (wp : S → va_W) : Prop :=
  vx_Met l y (ws_ y cc mL rt) rm (va_Pc av (Pr G b0 w sz)) (fun _ _ _ _ => False) (vx_X px (fun E' u t => E' = E ∧ Po G (wp u) (va_A w sz) t) (va_A w sz)) rm.cells rm.slots (va_A w sz)
theorem CTX.start {l : Launch} {y : MethodName} {cc : ByteArray} {mL : Nat} {rt : Option FieldType} {rm : Room} {G : GG} {b0 : Nat} {av : List Value} {w : va_W} {sz : Nat} {E : String} {S : Type} {px : S → Prop} {wp : S → va_W} (hy : plainName y.cls = true) (hmL : (lg_sl av).length ≤ mL)
    (body : ∀ (p : Program) (e : Jvm.Env) (s : State) (m : MethodId) (below : List Frame) (meth : Method) (c : Code) (A : Nat → Prop) (ls : Array Slot), p.tables.exec = Jvm.exec → c.code = cc → meth.sig.returnType = rt → meth.locks = false → c.maxLocals = mL → s.vm.findClass y.cls = some m.cls → meth.name = y.name → (∀ w ∈ lw_all, w.before av.toArray s = true) → Env G b0 s → (∀ q, s.heap.size ≤ q → A q) → (∀ q, A q → b0 ≤ q) → s.heap.size = sz → va_P G.1 vwCl w s.heap → va_D A w → lv_has ls mL (lv_args 0 av) → (∀ x ∈ c.exceptionTable.toList, False) →
      W p l e rm s m av.toArray below meth c s.heap [] 0 0 (XQ below G E px wp av.toArray s rm.cells rm.slots A) (F0 m 0 ls [])) : CTX l y cc mL rt rm G b0 av w sz E px wp := by
  refine vx_ofW (cc := cc) (maxL := mL) (ret := rt) hy rfl ?_
  intro p e s m args below meth c s₁ B hml hexT hv
  obtain ⟨rfl, hsz, hP, hD0, hE⟩ := hv
  have hts := atoms_spec (ws := ws_ y cc mL rt) B.pre
  have hl := lv_entry av (n := mL) hmL
  rw [lg_entry_eq]
  refine body p e s m below meth c _ _ B.exec B.bytes B.returns B.notSynchronized hml (findClass_of_methodNamed B.named) (name_of_methodNamed B.named B.method).1 (fun w h => hts w (List.mem_cons_of_mem _ h)) hE (fun q h => Or.inr (by rw [← hsz]; exact h)) (fun q h => ?_) hsz hP hD0.self hl hexT
  rcases h with ⟨k, e', hk⟩ | h
  · exact hD0.2 k (q, e') hk
  · exact Nat.le_trans hE.2.1 (by rw [hsz]; exact h)
theorem CTX.go {l : Launch} {y : MethodName} {cc : ByteArray} {mL : Nat} {rt : Option FieldType} {rm : Room} {G : GG} {b0 : Nat} {av : List Value} {w : va_W} {sz : Nat} {E : String} {S : Type} {px : S → Prop} {wp : S → va_W} (hy : plainName y.cls = true) (hmL : (lg_sl av).length ≤ mL)
    (body : ∀ (p : Program) (e : Jvm.Env) (s : State) (m : MethodId) (below : List Frame) (meth : Method) (c : Code) (A : Nat → Prop) (ls : Array Slot) (AR : Array Value) (QQ : State → Prop), p.tables.exec = Jvm.exec → c.code = cc → meth.sig.returnType = rt → meth.locks = false → c.maxLocals = mL → s.vm.findClass y.cls = some m.cls → meth.name = y.name → (∀ w ∈ lw_all, w.before AR s = true) → Env G b0 s → (∀ q, s.heap.size ≤ q → A q) → (∀ q, A q → b0 ≤ q) → s.heap.size = sz → va_P G.1 vwCl w s.heap → va_D A w → va_S A s.heap s.heap [] → lv_has ls mL (lv_args 0 av) → (∀ x ∈ c.exceptionTable.toList, False) → QQ = XQ below G E px wp AR s rm.cells rm.slots A →
      W p l e rm s m AR below meth c s.heap [] 0 0 QQ (F0 m 0 ls [])) : CTX l y cc mL rt rm G b0 av w sz E px wp :=
  CTX.start hy hmL (fun p e s m below meth c A ls hx hb hr hlk hml hown hnm hts hE hA hAb hsz hP hD hl hexT => body p e s m below meth c A ls _ _ hx hb hr hlk hml hown hnm hts hE hA hAb hsz hP hD va_S.rf hl hexT rfl)
section CLX
variable {p : Program} {l : Launch} {e : Jvm.Env} {R : Room} {s : State} {m : MethodId} {args : Array Value} {below : List Frame} {meth : Method} {c : Code} {H : Heap} {locs : List Loc} {cells slots : Nat} {Q : State → Prop}
variable {cc : ByteArray} {pc : Nat} {ls : Array Slot} {rest : List Value} {A : Nat → Prop} {G : GG} {b0 : Nat}
variable {y : MethodName} {bytes : ByteArray} {maxL nL index : Nat} {rt : Option FieldType} {rm : Room} {own C host : String} {b : Nat} {As : List Value} {wc ws : va_W} {Qc : Qt} {n9 : Nat}
variable {E : String} {S : Type} {px : S → Prop} {wp ws' : S → va_W} {mc ms : Nat} {st0 : List Value}
theorem run_VX (hx : p.tables.exec = Jvm.exec) (hb : c.code = cc) (hml : c.maxLocals = nL) (hown : s.vm.findClass own = some m.cls) (hts : ∀ w ∈ lw_all, w.before args s = true) (hE : Env G b0 s) (hAb : ∀ q, A q → b0 ≤ q) (hls : ls.size = nL) (hS : va_S A s.heap H locs) (hP : va_P G.1 vwCl ws H) (hD : va_D A ws)
    (isC : List Nat) (hC : isC.map (fun i => ws[i]?) = wc.map some) (hn : va_nd isC = true) (hM : CTX l y bytes maxL rt rm G b0 (.ref b :: As) wc H.size E px wp) (hg : GoodIn lw_all (wsV own index C y (ws_ y bytes maxL rt)))
    (q0 : Nat) {ci : Nat} {fs : List Value} {T : u_T} {N : Nat} (hrv : ws[q0]? = some (b, .inr (ci, fs))) (hci : vwCl[ci]? = some (C, T, N)) (hd : y.cls = C ∧ y.cls ≠ "java/lang/invoke/MethodHandle" ∧ y.cls ≠ "java/lang/invoke/VarHandle" ∧ (parseMethodDescriptor y.desc).map (fun d => d.parameters.length) = some n9) (hR : rm.frames + 1 ≤ R.frames ∧ 8 + (maxL + 11) + rm.locals ≤ R.locals)
    (hcs : cells + rm.cells ≤ R.cells ∧ slots + rm.slots ≤ R.slots) (hdg : decode cc pc = .ok (.invokevirtual index, 3)) (h8 : (rest.map fun v => v.category).sum ≤ 8) {st0 : List Value} (hn9 : As.length = n9) (hst : st0 = As.reverse ++ .ref b :: rest) :
    vx_Run p l e R s m args below meth c H locs cells slots rm.cells rm.slots (F0 m pc ls st0) rest (fun _ _ _ => False) (vx_X px (fun E' u t => E' = E ∧ Po G (wp u) (va_A wc H.size) t) (va_A wc H.size)) (va_A wc H.size) := by
  subst hst
  refine vx_runV (As := As) (rest := rest) (C := C) ⟨hx, hb, hml, hown, hts⟩ hM (cwV n9 hts hg rfl rfl rfl hd hR) ⟨Pr.blind, va_recv hE.1 hP hci hrv, preOf isC hC hn hE hAb hS hP hD _⟩ rfl hn9 hls rfl (lv_room h8) hdg hcs
theorem run_SX (hx : p.tables.exec = Jvm.exec) (hb : c.code = cc) (hml : c.maxLocals = nL) (hown : s.vm.findClass own = some m.cls) (hts : ∀ w ∈ lw_all, w.before args s = true) (hE : Env G b0 s) (hAb : ∀ q, A q → b0 ≤ q) (hls : ls.size = nL) (hS : va_S A s.heap H locs) (hP : va_P G.1 vwCl ws H) (hD : va_D A ws)
    (isC : List Nat) (hC : isC.map (fun i => ws[i]?) = wc.map some) (hn : va_nd isC = true) (hM : CTX l y bytes maxL rt rm G b0 As wc H.size E px wp) (hg : GoodIn lw_all (va_wsS own index y (ws_ y bytes maxL rt)))
    (hd : y.cls ≠ "java/lang/invoke/MethodHandle" ∧ y.cls ≠ "java/lang/invoke/VarHandle" ∧ (parseMethodDescriptor y.desc).map (fun d => d.parameters.length) = some n9) (hR : rm.frames + 1 ≤ R.frames ∧ 8 + (maxL + 11) + rm.locals ≤ R.locals)
    (hcs : cells + rm.cells ≤ R.cells ∧ slots + rm.slots ≤ R.slots) (hdg : decode cc pc = .ok (.invokestatic index, 3)) (h8 : (rest.map fun v => v.category).sum ≤ 8) {st0 : List Value} (hn9 : As.length = n9) (hst : st0 = As.reverse ++ rest) :
    vx_Run p l e R s m args below meth c H locs cells slots rm.cells rm.slots (F0 m pc ls st0) rest (fun _ _ _ => False) (vx_X px (fun E' u t => E' = E ∧ Po G (wp u) (va_A wc H.size) t) (va_A wc H.size)) (va_A wc H.size) := by
  subst hst
  refine vx_runS (As := As) (rest := rest) ⟨hx, hb, hml, hown, hts⟩ hM (va_cwS n9 hts hg rfl rfl rfl hd hR) ⟨Pr.blind, preOf isC hC hn hE hAb hS hP hD _⟩ rfl hn9 hls rfl (lv_room h8) hdg hcs
/-- behind a call that throws -/
theorem fin_x (hS : va_S A s.heap H locs) (hF : ∀ q, va_A wc H.size q → A q)
    (hr : vx_Run p l e R s m args below meth c H locs cells slots mc ms (F0 m pc ls st0) rest (fun _ _ _ => False) (vx_X px (fun E' u t => E' = E ∧ Po G (wp u) (va_A wc H.size) t) (va_A wc H.size)) (va_A wc H.size))
    (hfr : ∀ (u : S) (H1 : Heap), (∀ q : Nat, q < H.size → ¬ va_A wc H.size q → H1[q]? = H[q]?) → va_P G.1 vwCl (wp u) H1 → va_D (va_A wc H.size) (wp u) → va_P G.1 vwCl (ws' u) H1 ∧ va_D A (ws' u))
    (kx : ∀ (ce : Cell) (q9 : Addr) (u : S) (H1 : Heap) (locs1 : List Loc), px u → va_P G.1 vwCl (ws' u) H1 → va_D A (ws' u) → va_S A s.heap H1 locs1 → H1[q9]? = some ce → ce.vm = .none → s.vm.findClass E = some ce.cls → vx_W p l e R s m args below meth c H1 locs1 (cells + mc) (slots + ms) Q (F0 m pc ls rest) q9) : W p l e R s m args below meth c H locs cells slots Q (F0 m pc ls st0) := by
  intro T hT X
  rcases hr T hT X with ⟨v, st₀, t, T', L, h0, X', hL, e1, e2, hq, st⟩ | ⟨q, st₀, t, T', L, E', ce, h0, X', hL, e1, e2, ⟨u, hp, ⟨rfl, hP1, hD1⟩, hFF⟩, hce, hcv, hcl, st⟩
  · exact hq.elim
  · obtain ⟨k1, k2, k3⟩ := vx_keep h0 e1 hS (fun q _ h => hF q h) hF hL hFF
    rw [← e1] at hP1 hce
    obtain ⟨hP2, hD2⟩ := hfr u T'.heap k2 hP1 hD1
    obtain ⟨t2, a1, b1⟩ := kx ce q u T'.heap (locs ++ L) hp hP2 hD2 k3 hce hcv hcl T' rfl X'
    exact ⟨t2, st.trans a1, b1⟩
/-- it goes on to the caller -/
theorem rt_x {ce : Cell} {q9 : Addr} (hexT : ∀ x ∈ c.exceptionTable.toList, False) (hlk : meth.locks = false) (u : S) (hP : va_P G.1 vwCl (wp u) H) (hD : va_D A (wp u)) (hS : va_S A s.heap H locs) (hce : H[q9]? = some ce) (hcv : ce.vm = .none) (hcl : s.vm.findClass E = some ce.cls) (hc : cells ≤ mc) (hs : slots ≤ ms) (hp : px u) :
    vx_W p l e R s m args below meth c H locs cells slots (XQ below G E px wp args s mc ms A) (F0 m pc ls rest) q9 :=
  vx_out (fun x h => (hexT x h).elim) hlk hce hcv hcl (fun t ht _ => ⟨u, hp, ⟨rfl, by rw [ht]; exact hP, hD⟩, hS.F ht⟩) hS.2.2 hc hs
end CLX
