/-! ===== PRELUDE: the environment, contracts, calls, frames ===== -/
abbrev GG : Type := va_G × (Nat → ClassId) × (Nat → Nat) × (Nat → Nat)
abbrev vwCl : List vw_C := [(RX1, TX1, 12), (RX2, TX2, 4), (RX3, TX3, 4), (RX4, TX4, 3), (RX5, TX5, 1), (RX6, TX6, 1), (RX7, TX7, 4), (RX8, TX8, 4), (RX9, TX9, 21), (RX10, TX10, 4), (RJ6, TJ6, 3), (RJ9, TJ9, 3), (RJ11, TJ11, 4)]
abbrev tyG (G : GG) : List (ClassId × FieldType) := [(G.2.1 0, .int), (G.2.1 1, .boolean), (G.2.1 2, .long), (G.2.1 3, .byte), (G.2.1 4, .object "java/lang/Object"), (G.2.1 5, .object "CrumbPictures$Order")]
abbrev aI (G : GG) (a n : Nat) (f : Nat → Int32) : Nat × va_E := (a, .inl (G.2.1 0, n, .inl f))
abbrev aZ (G : GG) (a n : Nat) (f : Nat → Int32) : Nat × va_E := (a, .inl (G.2.1 1, n, .inl f))
abbrev aJ (G : GG) (a n : Nat) (f : Nat → Int64) : Nat × va_E := (a, .inl (G.2.1 2, n, .inr (.inl f)))
abbrev aB (G : GG) (a n : Nat) (f : Nat → Int32) : Nat × va_E := (a, .inl (G.2.1 3, n, .inl f))
abbrev aO (G : GG) (a n : Nat) (f : Nat → Option Nat) : Nat × va_E := (a, .inl (G.2.1 4, n, .inr (.inr (.inr (.inr f)))))
abbrev aR (G : GG) (a n : Nat) (f : Nat → Option Nat) : Nat × va_E := (a, .inl (G.2.1 5, n, .inr (.inr (.inr (.inr f)))))
abbrev oX (a ci : Nat) (fs : List Value) : Nat × va_E := (a, .inr (ci, fs))
/-- words of the tables that don't ride in the lists, and stay when the machine warms up -/
def isNb (w : Cond) : Bool := match w with
  | .fieldLinkNest .. => true
  | .methodLinkNest .. => true
  | .declares _ => true
  | .castable _ _ => true
  | .privateMethod _ => true
  | _ => false
theorem nb_warm {w : Cond} (h : isNb w = true) {s U : State} (hW : s.WarmedH U.vm) (hZ : va_Nw w s) : va_Nw w U := by
  unfold isNb at h
  split at h
  · exact va_Nw.warmF hW hZ
  · exact va_Nw.warmM hW hZ
  · exact va_Nw.warmD hW hZ
  · exact va_Nw.warmC hW hZ
  · exact Cond.privateMethod_warm hW hZ
  · cases h
theorem nb_tab {w : Cond} (h : isNb w = true) : w.onTables = true := by
  unfold isNb at h
  split at h
  · rfl
  · rfl
  · rfl
  · rfl
  · rfl
  · cases h
/-- the thresholds that the component's table tells -/
def tld (j : Nat) : Nat := if j = 0 then 0 else 2 ^ (j - 1)
/-- static fields that nobody writes, and what they refer to -/
def St (G : GG) (A : Nat → Prop) (U : State) (H : Heap) : Prop :=
  va_Z "java/util/BitSet" "$assertionsDisabled" "Z" (.int 1) A U H ∧
  va_Z "java/lang/String" "COMPACT_STRINGS" "Z" (.int 1) A U H ∧
  va_Z "java/lang/Integer$IntegerCache" "high" "I" (.int 127) A U H ∧
  va_Z "java/lang/Integer$IntegerCache" "cache" "[Ljava/lang/Integer;" (.ref (G.2.2.1 2)) A U H ∧
  va_T (.object "java/lang/Integer") (G.2.2.1 2) 256 (fun j => .ref (G.2.2.2 j)) A U H ∧
  vb_C G.2.2.2 A U H ∧
  va_Z "java/util/ArrayList" "DEFAULTCAPACITY_EMPTY_ELEMENTDATA" "[Ljava/lang/Object;" (.ref (G.2.2.1 1)) A U H ∧
  va_T (.object "java/lang/Object") (G.2.2.1 1) 0 (fun _ => .null) A U H ∧
  va_Z "CrumbPictures" "TOLD" "[I" (.ref (G.2.2.1 0)) A U H ∧
  va_T .int (G.2.2.1 0) 9 (fun j => .int (nI (tld j))) A U H ∧
  vx_Zq Bundle.tN "UNASSIGNED_STACK" Bundle.steD A U H ∧
  vx_Zq Bundle.tN "SUPPRESSED_SENTINEL" Bundle.listD A U H ∧
  va_Zq "jdk/internal/util/Preconditions" "SIOOBE_FORMATTER" "Ljava/util/function/BiFunction;" A U H
theorem St.moved {G : GG} {A : Nat → Prop} {u U : State} {H : Heap} (hvm : u.vm.Alike U.vm) (h : St G A u H) : St G A U H := by
  obtain ⟨h1, h2, h3, h4, h5, h6, h7, h8, h9, h10, h11, h12, h13⟩ := h
  exact ⟨h1.moved hvm, h2.moved hvm, h3.moved hvm, h4.moved hvm, h5.moved hvm, h6.moved hvm, h7.moved hvm, h8.moved hvm, h9.moved hvm, h10.moved hvm, h11.moved hvm, h12.moved hvm, h13.moved hvm⟩
theorem St.kept {G : GG} {A : Nat → Prop} {U : State} {H H1 : Heap} (h : St G A U H) (hq : ∀ a : Nat, a < H.size → ¬ A a → H1[a]? = H[a]?) : St G A U H1 := by
  obtain ⟨h1, h2, h3, h4, h5, h6, h7, h8, h9, h10, h11, h12, h13⟩ := h
  exact ⟨h1.kept hq, h2.kept hq, h3.kept hq, h4.kept hq, h5.kept hq, h6.kept hq, h7.kept hq, h8.kept hq, h9.kept hq, h10.kept hq, h11.kept hq, h12.kept hq, h13.kept hq⟩
theorem St.narrow {G : GG} {A B : Nat → Prop} {U : State} {H : Heap} (h : St G A U H) (hAB : ∀ q, B q → A q) : St G B U H := by
  obtain ⟨h1, h2, h3, h4, h5, h6, h7, h8, h9, h10, h11, h12, h13⟩ := h
  exact ⟨h1.narrow hAB, h2.narrow hAB, h3.narrow hAB, h4.narrow hAB, h5.narrow hAB, h6.narrow hAB, h7.narrow hAB, h8.narrow hAB, h9.narrow hAB, h10.narrow hAB, h11.narrow hAB, h12.narrow hAB, h13.narrow hAB⟩
abbrev yIt_hasNext : MethodName := { cls := "java/util/Iterator", name := "hasNext", desc := "()Z" }
abbrev yIt_next : MethodName := { cls := "java/util/Iterator", name := "next", desc := "()Ljava/lang/Object;" }
abbrev yB1_hasNext : MethodName := { cls := "CrumbPictures$Band$1", name := "hasNext", desc := "()Z" }
abbrev yB1_next : MethodName := { cls := "CrumbPictures$Band$1", name := "next", desc := "()Ljava/lang/Object;" }
/-- what holds at every method's start -/
def Env (G : GG) (b0 : Nat) (U : State) : Prop :=
  va_K G.1 vwCl (tyG G) U ∧ b0 ≤ U.heap.size ∧ (∀ w, w ∈ lw_tbl → isNb w = true → va_Nw w U) ∧
  (va_AO "CrumbPictures$Order" U ∧ va_AO "java/lang/Object" U) ∧
  (va_Fw "CrumbPictures$Band$1" yIt_hasNext yB1_hasNext U ∧ va_Fw "CrumbPictures$Band$1" yIt_next yB1_next U) ∧
  (va_Nc "java/lang/IllegalArgumentException" "java/lang/IndexOutOfBoundsException" U ∧ va_Nc "java/lang/IllegalStateException" "java/lang/IndexOutOfBoundsException" U ∧ va_Nc "java/lang/IllegalStateException" "java/lang/IllegalArgumentException" U) ∧
  St G (fun q => b0 ≤ q) U U.heap
theorem Env.nb {G : GG} {b0 : Nat} {U : State} (h : Env G b0 U) {w : Cond} (h1 : w ∈ lw_tbl) (h2 : isNb w = true) {a : Array Value} : w.before a U = true := va_Nw.use (nb_tab h2) (h.2.2.1 w h1 h2)
theorem Env.warm {G : GG} {b0 : Nat} {s U : State} {A : Nat → Prop} {H : Heap} {locs : List Loc} (hE : Env G b0 s) (hW : s.WarmedH U.vm) (hU : U.heap = H) (hS : va_S A s.heap H locs) (hAb : ∀ q, A q → b0 ≤ q) : Env G b0 U := by
  obtain ⟨h1, h2, h3, h4, h5, h6, h7⟩ := hE
  refine ⟨h1.moved hW.alike, by rw [hU]; exact Nat.le_trans h2 hS.1, fun w a b => nb_warm b hW (h3 w a b), ⟨h4.1.moved hW.alike, h4.2.moved hW.alike⟩, ⟨h5.1.moved (by decide) hW.alike, h5.2.moved (by decide) hW.alike⟩, ⟨h6.1.moved hW.alike, h6.2.1.moved hW.alike, h6.2.2.moved hW.alike⟩, ?_⟩
  rw [hU]
  exact (h7.moved hW.alike).kept (fun a ha hn => hS.2.1 a ha (fun z => hn (hAb a z)))
theorem Env.calling {G : GG} {b0 : Nat} {U : State} {g : JFrame} {mk : MethodId} {a : Array Value} (hE : Env G b0 U) : Env G b0 (U.calling g mk a) := by
  obtain ⟨h1, h2, h3, h4, h5, h6, h7⟩ := hE
  have hv : U.vm.Alike (U.calling g mk a).vm := Vm.Alike.refl U.vm
  exact ⟨h1.moved hv, h2, fun w x y => va_Nw.same (u := U) (U := U.calling g mk a) (nb_tab y) rfl (h3 w x y), ⟨h4.1.moved hv, h4.2.moved hv⟩, ⟨h5.1.moved (by decide) hv, h5.2.moved (by decide) hv⟩, ⟨h6.1.moved hv, h6.2.1.moved hv, h6.2.2.moved hv⟩, h7.moved hv⟩
/-- a contract's start: the world's cells from b0 on, the environment -/
def Pr (G : GG) (b0 : Nat) (w : va_W) (sz : Nat) (U : State) : Prop := U.heap.size = sz ∧ va_P G.1 vwCl w U.heap ∧ va_D (fun q => b0 ≤ q) w ∧ Env G b0 U
/-- a contract's end -/
abbrev Po (G : GG) (w : va_W) (A : Nat → Prop) (t : State) : Prop := va_P G.1 vwCl w t.heap ∧ va_D A w
theorem Pr.blind {G : GG} {b0 : Nat} {w : va_W} {sz : Nat} {av : List Value} : FrameBlind (va_Pc av (Pr G b0 w sz)) := fun a U g mk q => by
  obtain ⟨q0, q1, q2, q3, q4⟩ := q
  exact ⟨q0, q1, q2, q3, q4.calling⟩
abbrev Qt : Type := (Nat → Prop) → Array Value → State → Outcome → State → Prop
abbrev Ri {S : Type} (G : GG) (post : Int32 → S → Prop) (wp : S → va_W) : Qt := fun A => va_Qi post (fun u t => Po G (wp u) A t) A
abbrev Rl {S : Type} (G : GG) (post : Int64 → S → Prop) (wp : S → va_W) : Qt := fun A => va_Ql post (fun u t => Po G (wp u) A t) A
abbrev Rd {S : Type} (G : GG) (post : UInt64 → S → Prop) (wp : S → va_W) : Qt := fun A => va_Qd post (fun u t => Po G (wp u) A t) A
abbrev Rv {S : Type} (G : GG) (post : S → Prop) (wp : S → va_W) : Qt := fun A => va_Qv post (fun u t => Po G (wp u) A t) A
abbrev Rr {S : Type} (G : GG) (post : S → Prop) (ra : S → Nat) (wp : S → va_W) : Qt := fun A => va_Qr post (fun u a t => a = ra u ∧ Po G (wp u) A t) A
/-- a contract -/
abbrev CT (l : Launch) (y : MethodName) (cc : ByteArray) (mL : Nat) (rt : Option FieldType) (rm : Room) (G : GG) (b0 : Nat) (av : List Value) (w : va_W) (sz : Nat) (Qc : Qt) : Prop :=
  Met l y (ws_ y cc mL rt) rm (va_Pc av (Pr G b0 w sz)) (Qc (va_A w sz)) rm.cells rm.slots (va_A w sz)
theorem CT.start {l : Launch} {y : MethodName} {cc : ByteArray} {mL : Nat} {rt : Option FieldType} {rm : Room} {G : GG} {b0 : Nat} {av : List Value} {w : va_W} {sz : Nat} {Qc : Qt} (hy : plainName y.cls = true) (hmL : (lg_sl av).length ≤ mL)
    (body : ∀ (p : Program) (e : Jvm.Env) (s : State) (m : MethodId) (below : List Frame) (meth : Method) (c : Code) (A : Nat → Prop) (ls : Array Slot), p.tables.exec = Jvm.exec → c.code = cc → meth.sig.returnType = rt → meth.locks = false → c.maxLocals = mL → s.vm.findClass y.cls = some m.cls → meth.name = y.name → (∀ w ∈ lw_all, w.before av.toArray s = true) → Env G b0 s → (∀ q, s.heap.size ≤ q → A q) → (∀ q, A q → b0 ≤ q) → s.heap.size = sz → va_P G.1 vwCl w s.heap → va_D A w → lv_has ls mL (lv_args 0 av) →
      W p l e rm s m av.toArray below meth c s.heap [] 0 0 (MQ below (Qc A) av.toArray s rm.cells rm.slots A) (F0 m 0 ls [])) : CT l y cc mL rt rm G b0 av w sz Qc := by
  refine Met.ofW (cc := cc) (maxL := mL) (ret := rt) hy rfl ?_
  intro p e s m args below meth c s₁ B hml hv
  obtain ⟨rfl, hsz, hP, hD0, hE⟩ := hv
  have hts := atoms_spec (ws := ws_ y cc mL rt) B.pre
  have hl := lv_entry av (n := mL) hmL
  rw [lg_entry_eq]
  refine body p e s m below meth c _ _ B.exec B.bytes B.returns B.notSynchronized hml (findClass_of_methodNamed B.named) (name_of_methodNamed B.named B.method).1 (fun w h => hts w (List.mem_cons_of_mem _ h)) hE (fun q h => Or.inr (by rw [← hsz]; exact h)) (fun q h => ?_) hsz hP hD0.self hl
  rcases h with ⟨k, e', hk⟩ | h
  · exact hD0.2 k (q, e') hk
  · exact Nat.le_trans hE.2.1 (by rw [hsz]; exact h)
theorem CT.go {l : Launch} {y : MethodName} {cc : ByteArray} {mL : Nat} {rt : Option FieldType} {rm : Room} {G : GG} {b0 : Nat} {av : List Value} {w : va_W} {sz : Nat} {Qc : Qt} (hy : plainName y.cls = true) (hmL : (lg_sl av).length ≤ mL)
    (body : ∀ (p : Program) (e : Jvm.Env) (s : State) (m : MethodId) (below : List Frame) (meth : Method) (c : Code) (A : Nat → Prop) (ls : Array Slot) (AR : Array Value) (QQ : State → Prop), p.tables.exec = Jvm.exec → c.code = cc → meth.sig.returnType = rt → meth.locks = false → c.maxLocals = mL → s.vm.findClass y.cls = some m.cls → meth.name = y.name → (∀ w ∈ lw_all, w.before AR s = true) → Env G b0 s → (∀ q, s.heap.size ≤ q → A q) → (∀ q, A q → b0 ≤ q) → s.heap.size = sz → va_P G.1 vwCl w s.heap → va_D A w → va_S A s.heap s.heap [] → lv_has ls mL (lv_args 0 av) → QQ = MQ below (Qc A) AR s rm.cells rm.slots A →
      W p l e rm s m AR below meth c s.heap [] 0 0 QQ (F0 m 0 ls [])) : CT l y cc mL rt rm G b0 av w sz Qc :=
  CT.start hy hmL (fun p e s m below meth c A ls hx hb hr hlk hml hown hnm hts hE hA hAb hsz hP hD hl => body p e s m below meth c A ls _ _ hx hb hr hlk hml hown hnm hts hE hA hAb hsz hP hD va_S.rf hl rfl)
section PRE1
variable {p : Program} {l : Launch} {e : Jvm.Env} {R : Room} {s : State} {m : MethodId} {args : Array Value} {below : List Frame} {meth : Method} {c : Code} {H : Heap} {locs : List Loc} {cells slots : Nat} {Q : State → Prop}
variable {cc : ByteArray} {pc : Nat} {ls : Array Slot} {rest : List Value} {A : Nat → Prop} {G : GG} {mc ms : Nat}
/-! ends -/
theorem rt_i {S : Type} {post : Int32 → S → Prop} {wp : S → va_W} {v : Int32} (hx : p.tables.exec = Jvm.exec) (hb : c.code = cc) (hr : meth.sig.returnType = some .int) (hlk : meth.locks = false) (u : S) (hdg : decode cc pc = .ok (.ireturn, 1)) (hP : va_P G.1 vwCl (wp u) H) (hD : va_D A (wp u)) (hS : va_S A s.heap H locs) (hc : cells ≤ mc) (hs : slots ≤ ms) (hp : post v u) :
    W p l e R s m args below meth c H locs cells slots (MQ below (Ri G post wp A) args s mc ms A) (F0 m pc ls [.int v]) := by
  refine W.widen hc hs ?_
  exact W.iret hx hb hr (fun t ht hW => ⟨⟨v, u, rfl, hp, by rw [ht]; exact hP, hD⟩, hS.F ht⟩) hS.2.2 hdg hlk
theorem rt_z {S : Type} {post : Int32 → S → Prop} {wp : S → va_W} {v : Int32} {ty : FieldType} (hx : p.tables.exec = Jvm.exec) (hb : c.code = cc) (hr : meth.sig.returnType = some ty) (hlk : meth.locks = false) (hn : narrow ty (.int v) = .int v) (u : S) (hdg : decode cc pc = .ok (.ireturn, 1)) (hP : va_P G.1 vwCl (wp u) H) (hD : va_D A (wp u)) (hS : va_S A s.heap H locs) (hc : cells ≤ mc) (hs : slots ≤ ms) (hp : post v u) :
    W p l e R s m args below meth c H locs cells slots (MQ below (Ri G post wp A) args s mc ms A) (F0 m pc ls [.int v]) := by
  refine W.widen hc hs ?_
  exact W.zret hx hb hr hn (fun t ht hW => ⟨⟨v, u, rfl, hp, by rw [ht]; exact hP, hD⟩, hS.F ht⟩) hS.2.2 hdg hlk
theorem rt_l {S : Type} {post : Int64 → S → Prop} {wp : S → va_W} {v : Int64} (hx : p.tables.exec = Jvm.exec) (hb : c.code = cc) (hr : meth.sig.returnType = some .long) (hlk : meth.locks = false) (u : S) (hdg : decode cc pc = .ok (.lreturn, 1)) (hP : va_P G.1 vwCl (wp u) H) (hD : va_D A (wp u)) (hS : va_S A s.heap H locs) (hc : cells ≤ mc) (hs : slots ≤ ms) (hp : post v u) :
    W p l e R s m args below meth c H locs cells slots (MQ below (Rl G post wp A) args s mc ms A) (F0 m pc ls [.long v]) := by
  refine W.widen hc hs ?_
  exact W.lret hx hb hr (fun t ht hW => ⟨⟨v, u, rfl, hp, by rw [ht]; exact hP, hD⟩, hS.F ht⟩) hS.2.2 hdg hlk
theorem rt_d {S : Type} {post : UInt64 → S → Prop} {wp : S → va_W} {v : UInt64} (hx : p.tables.exec = Jvm.exec) (hb : c.code = cc) (hr : meth.sig.returnType = some .double) (hlk : meth.locks = false) (u : S) (hdg : decode cc pc = .ok (.dreturn, 1)) (hP : va_P G.1 vwCl (wp u) H) (hD : va_D A (wp u)) (hS : va_S A s.heap H locs) (hc : cells ≤ mc) (hs : slots ≤ ms) (hp : post v u) :
    W p l e R s m args below meth c H locs cells slots (MQ below (Rd G post wp A) args s mc ms A) (F0 m pc ls [.double v]) := by
  refine W.widen hc hs ?_
  exact W.dret hx hb hr (fun t ht hW => ⟨⟨v, u, rfl, hp, by rw [ht]; exact hP, hD⟩, hS.F ht⟩) hS.2.2 hdg hlk
theorem rt_v {S : Type} {post : S → Prop} {wp : S → va_W} (hx : p.tables.exec = Jvm.exec) (hb : c.code = cc) (hr : meth.sig.returnType = none) (hlk : meth.locks = false) (u : S) (hdg : decode cc pc = .ok (.return_, 1)) (hP : va_P G.1 vwCl (wp u) H) (hD : va_D A (wp u)) (hS : va_S A s.heap H locs) (hc : cells ≤ mc) (hs : slots ≤ ms) (hp : post u) :
    W p l e R s m args below meth c H locs cells slots (MQ below (Rv G post wp A) args s mc ms A) (F0 m pc ls []) := by
  refine W.widen hc hs ?_
  exact W.vret hx hb hr (fun t ht hW => ⟨⟨u, rfl, hp, by rw [ht]; exact hP, hD⟩, hS.F ht⟩) hS.2.2 hdg hlk
theorem rt_r {S : Type} {post : S → Prop} {ra : S → Nat} {wp : S → va_W} {a : Nat} {ty : FieldType} (hx : p.tables.exec = Jvm.exec) (hb : c.code = cc) (hr : meth.sig.returnType = some ty) (hlk : meth.locks = false) (hty : (∃ n, ty = .object n) ∨ ∃ t, ty = .array t) (u : S) (hdg : decode cc pc = .ok (.areturn, 1)) (hP : va_P G.1 vwCl (wp u) H) (hD : va_D A (wp u)) (hS : va_S A s.heap H locs) (hc : cells ≤ mc) (hs : slots ≤ ms) (ha : a = ra u) (hp : post u) :
    W p l e R s m args below meth c H locs cells slots (MQ below (Rr G post ra wp A) args s mc ms A) (F0 m pc ls [.ref a]) := by
  refine W.widen hc hs ?_
  exact W.aret hx hb hr hty (Or.inr ⟨a, rfl⟩) (fun t ht hW => ⟨⟨u, a, rfl, hp, ha, by rw [ht]; exact hP, hD⟩, hS.F ht⟩) hS.2.2 hdg hlk
end PRE1
/-! frames: what stands behind a call, picked out of the callee's cells (true) and the caller's others (false) -/
theorem fr_core {D : va_G} {cl : List vw_C} {A0 : Nat → Prop} {ws wc w1 ws' : va_W} {H H1 : Heap} (isC : List Nat) (σ : Nat → Bool × Nat) (hC : isC.map (fun i => ws[i]?) = wc.map some)
    (hσ : ∀ (k : Nat) (q : Nat × va_E), ws'[k]? = some q → (if (σ k).1 = true then w1[(σ k).2]? else ws[(σ k).2]?) = some q) (hinj : ∀ i j, i < ws'.length → j < ws'.length → σ i = σ j → i = j) (hout : ∀ k, k < ws'.length → (σ k).1 = false → (σ k).2 ∉ isC)
    (hP : va_P D cl ws H) (hD : va_D A0 ws) (hk : ∀ q : Nat, q < H.size → ¬ va_A wc H.size q → H1[q]? = H[q]?) (hF : ∀ q, va_A wc H.size q → A0 q) (hP1 : va_P D cl w1 H1) (hD1 : va_D (va_A wc H.size) w1) : va_P D cl ws' H1 ∧ va_D A0 ws' := by
  have at' : ∀ (k : Nat) (q : Nat × va_E), wc[k]? = some q → ∃ i, i ∈ isC ∧ ws[i]? = some q := by
    intro k q hq
    have h1 : (isC.map (fun i => ws[i]?))[k]? = some (some q) := by rw [hC, List.getElem?_map, hq]; rfl
    rw [List.getElem?_map] at h1
    cases hi : isC[k]? with
    | none => rw [hi] at h1; cases h1
    | some i => rw [hi] at h1; exact ⟨i, List.mem_of_getElem? hi, Option.some.inj h1⟩
  have apart : ∀ (i : Nat) (q : Nat × va_E), i ∉ isC → ws[i]? = some q → q.1 < H.size ∧ ¬ va_A wc H.size q.1 := by
    intro i q hi hq
    have hl := (hP i q hq).lt
    refine ⟨hl, fun h => ?_⟩
    rcases h with ⟨k2, e, h⟩ | h
    · obtain ⟨j, h3, h4⟩ := at' k2 (q.1, e) h
      have hij := hD.1 i j q (q.1, e) hq h4 rfl
      subst hij
      exact hi h3
    · omega
  have lt' : ∀ (k : Nat) (q : Nat × va_E), ws'[k]? = some q → k < ws'.length := fun k q h => (List.getElem?_eq_some_iff.mp h).1
  refine ⟨fun k q hq => ?_, ⟨fun i j x y hx hy hxy => ?_, fun k q hq => ?_⟩⟩
  · have h := hσ k q hq
    by_cases hb : (σ k).1 = true
    · rw [if_pos hb] at h
      exact hP1 _ q h
    · rw [if_neg hb] at h
      have ho := hout k (lt' k q hq) (by simpa using hb)
      obtain ⟨g1, g2⟩ := apart _ q ho h
      exact (hP _ q h).kept (hk q.1 g1 g2)
  · have hi := hσ i x hx
    have hj := hσ j y hy
    apply hinj i j (lt' i x hx) (lt' j y hy)
    by_cases hbi : (σ i).1 = true <;> by_cases hbj : (σ j).1 = true
    · rw [if_pos hbi] at hi
      rw [if_pos hbj] at hj
      have := hD1.1 _ _ x y hi hj hxy
      exact Prod.ext (hbi.trans hbj.symm) this
    · rw [if_pos hbi] at hi
      rw [if_neg hbj] at hj
      exact absurd (by rw [← hxy]; exact hD1.2 _ x hi) (apart _ y (hout j (lt' j y hy) (by simpa using hbj)) hj).2
    · rw [if_neg hbi] at hi
      rw [if_pos hbj] at hj
      exact absurd (by rw [hxy]; exact hD1.2 _ y hj) (apart _ x (hout i (lt' i x hx) (by simpa using hbi)) hi).2
    · rw [if_neg hbi] at hi
      rw [if_neg hbj] at hj
      have := hD.1 _ _ x y hi hj hxy
      have e1 : (σ i).1 = false := by simpa using hbi
      have e2 : (σ j).1 = false := by simpa using hbj
      exact Prod.ext (e1.trans e2.symm) this
  · have h := hσ k q hq
    by_cases hb : (σ k).1 = true
    · rw [if_pos hb] at h
      exact hF _ (hD1.2 _ q h)
    · rw [if_neg hb] at h
      exact hD.2 _ q h
def selOk (isC : List Nat) (sel : List (Bool × Nat)) : Bool := decide sel.Nodup && sel.all (fun q => q.1 || !(isC.contains q.2))
theorem selOk_spec {isC : List Nat} {sel : List (Bool × Nat)} (h : selOk isC sel = true) : sel.Nodup ∧ ∀ q ∈ sel, q.1 = false → q.2 ∉ isC := by
  unfold selOk at h
  rw [Bool.and_eq_true, decide_eq_true_eq, List.all_eq_true] at h
  refine ⟨h.1, fun q hq hb hin => ?_⟩
  have := h.2 q hq
  rw [hb] at this
  simp [hin] at this
/-- sel picks; a tail that no index reaches stays behind -/
theorem fr_selT {D : va_G} {cl : List vw_C} {A0 : Nat → Prop} {ws wc w1 ws' tl : va_W} {H H1 : Heap} (isC : List Nat) (sel : List (Bool × Nat)) (hC : isC.map (fun i => ws[i]?) = wc.map some) (hsel : sel.map (fun q => if q.1 = true then w1[q.2]? else ws[q.2]?) = ws'.map some) (hok : selOk isC sel = true)
    (hP : va_P D cl (ws ++ tl) H) (hD : va_D A0 (ws ++ tl)) (hk : ∀ q : Nat, q < H.size → ¬ va_A wc H.size q → H1[q]? = H[q]?) (hF : ∀ q, va_A wc H.size q → A0 q) (hP1 : va_P D cl w1 H1) (hD1 : va_D (va_A wc H.size) w1) : va_P D cl (ws' ++ tl) H1 ∧ va_D A0 (ws' ++ tl) := by
  obtain ⟨hnd, hno⟩ := selOk_spec hok
  have hlen : sel.length = ws'.length := by simpa using congrArg List.length hsel
  have hget : ∀ (k : Nat) (q : Nat × va_E), ws'[k]? = some q → ∃ z, sel[k]? = some z ∧ (if z.1 = true then w1[z.2]? else ws[z.2]?) = some q := by
    intro k q hq
    have h1 : (sel.map (fun q => if q.1 = true then w1[q.2]? else ws[q.2]?))[k]? = some (some q) := by rw [hsel, List.getElem?_map, hq]; rfl
    rw [List.getElem?_map] at h1
    cases hz : sel[k]? with
    | none => rw [hz] at h1; cases h1
    | some z => rw [hz] at h1; exact ⟨z, rfl, Option.some.inj h1⟩
  have hall : ∀ z ∈ sel, z.1 = false → z.2 < ws.length := by
    intro z hz hb
    obtain ⟨k, hk2⟩ := List.getElem?_of_mem hz
    have hk3 : k < ws'.length := by rw [← hlen]; exact (List.getElem?_eq_some_iff.mp hk2).1
    obtain ⟨z2, h1, h2⟩ := hget k _ (List.getElem?_eq_getElem hk3)
    rw [hk2] at h1
    cases h1
    rw [if_neg (by rw [hb]; decide)] at h2
    exact (List.getElem?_eq_some_iff.mp h2).1
  have hisC : ∀ i ∈ isC, i < ws.length := by
    intro i hi
    obtain ⟨k, hk2⟩ := List.getElem?_of_mem hi
    have h1 : (isC.map (fun i => ws[i]?))[k]? = some ws[i]? := by rw [List.getElem?_map, hk2]; rfl
    rw [hC, List.getElem?_map] at h1
    cases hw : wc[k]? with
    | none => rw [hw] at h1; cases h1
    | some x => rw [hw] at h1; exact (List.getElem?_eq_some_iff.mp (Option.some.inj h1).symm).1
  refine fr_core isC (fun k => if k < ws'.length then sel.getD k (false, 0) else (false, ws.length + (k - ws'.length))) (wc := wc) (ws := ws ++ tl) (w1 := w1) ?_ ?_ ?_ ?_ hP hD hk hF hP1 hD1
  · rw [← hC]
    exact List.map_congr_left (fun i hi => List.getElem?_append_left (hisC i hi))
  · intro k q hq
    by_cases hkl : k < ws'.length
    · rw [List.getElem?_append_left hkl] at hq
      obtain ⟨z, h1, h2⟩ := hget k q hq
      simp only [hkl, if_true, List.getD_eq_getElem?_getD, h1, Option.getD_some]
      by_cases hb : z.1 = true
      · rw [if_pos hb] at h2 ⊢
        exact h2
      · rw [if_neg hb] at h2 ⊢
        rw [List.getElem?_append_left (List.getElem?_eq_some_iff.mp h2).1]
        exact h2
    · rw [List.getElem?_append_right (by omega)] at hq
      simp only [hkl, if_false]
      rw [if_neg (by decide), List.getElem?_append_right (by omega), show ws.length + (k - ws'.length) - ws.length = k - ws'.length by omega]
      exact hq
  · intro i j hi hj hij
    by_cases h1 : i < ws'.length <;> by_cases h2 : j < ws'.length
    · simp only [h1, h2, if_true, List.getD_eq_getElem?_getD] at hij
      rw [List.getElem?_eq_getElem (by omega), List.getElem?_eq_getElem (by omega), Option.getD_some, Option.getD_some] at hij
      exact (List.getElem?_inj (show i < sel.length by omega) hnd).mp (by rw [List.getElem?_eq_getElem (show i < sel.length by omega), List.getElem?_eq_getElem (show j < sel.length by omega), hij])
    · simp only [h1, h2, if_true, if_false, List.getD_eq_getElem?_getD] at hij
      rw [List.getElem?_eq_getElem (by omega), Option.getD_some] at hij
      have := hall _ (List.getElem_mem (l := sel) (n := i) (by omega)) (by rw [hij])
      rw [hij] at this
      dsimp only at this
      omega
    · simp only [h1, h2, if_true, if_false, List.getD_eq_getElem?_getD] at hij
      rw [List.getElem?_eq_getElem (by omega), Option.getD_some] at hij
      have := hall _ (List.getElem_mem (l := sel) (n := j) (by omega)) (by rw [← hij])
      rw [← hij] at this
      dsimp only at this
      omega
    · simp only [h1, h2, if_false, Prod.mk.injEq, true_and] at hij
      omega
  · intro k hkl hb hin
    by_cases h1 : k < ws'.length
    · simp only [h1, if_true, List.getD_eq_getElem?_getD] at hb hin
      rw [List.getElem?_eq_getElem (by omega), Option.getD_some] at hb hin
      exact hno _ (List.getElem_mem _) hb hin
    · simp only [h1, if_false] at hin
      have := hisC _ hin
      omega
theorem fr_sel {D : va_G} {cl : List vw_C} {A0 : Nat → Prop} {ws wc w1 ws' : va_W} {H H1 : Heap} (isC : List Nat) (sel : List (Bool × Nat)) (hC : isC.map (fun i => ws[i]?) = wc.map some) (hsel : sel.map (fun q => if q.1 = true then w1[q.2]? else ws[q.2]?) = ws'.map some) (hok : selOk isC sel = true)
    (hP : va_P D cl ws H) (hD : va_D A0 ws) (hk : ∀ q : Nat, q < H.size → ¬ va_A wc H.size q → H1[q]? = H[q]?) (hF : ∀ q, va_A wc H.size q → A0 q) (hP1 : va_P D cl w1 H1) (hD1 : va_D (va_A wc H.size) w1) : va_P D cl ws' H1 ∧ va_D A0 ws' := by
  have h := fr_selT (tl := []) isC sel hC hsel hok (by rw [List.append_nil]; exact hP) (by rw [List.append_nil]; exact hD) hk hF hP1 hD1
  rw [List.append_nil] at h
  exact h
