/-! ===== PRELUDE 4: contents of arrays; copies; Math ===== -/
abbrev nF (g : Nat → Nat) : Nat → Int32 := fun j => nI (g j)
abbrev bF (g : Nat → Bool) : Nat → Int32 := fun j => bI (g j)
theorem nF_upd (g : Nat → Nat) (i e : Nat) : upd (nF g) i (nI e) = nF (va_up g i e) := by
  funext j
  by_cases h : j = i
  · simp [upd, va_up, nF, h]
  · simp [upd, va_up, nF, h]
theorem bF_upd (g : Nat → Bool) (i : Nat) (e : Bool) : upd (bF g) i (bI e) = bF (va_up g i e) := by
  funext j
  by_cases h : j = i
  · simp [upd, va_up, bF, h]
  · simp [upd, va_up, bF, h]
theorem bI_nar' (b : Bool) : vp_nar .boolean (bI b) = bI b := by cases b <;> rfl
theorem bI_and (a b : Bool) : bI a &&& bI b = bI (a && b) := by cases a <;> cases b <;> decide
/-- the first k places by g, the others as they were -/
def fillTo {α : Type} (k : Nat) (g f : Nat → α) : Nat → α := fun j => if j < k then g j else f j
theorem fill0 {α : Type} (g f : Nat → α) : fillTo 0 g f = f := by
  funext j
  simp [fillTo]
theorem fill_lt {α : Type} {k j : Nat} {g f : Nat → α} (h : j < k) : fillTo k g f j = g j := by simp [fillTo, h]
theorem fill_ge {α : Type} {k j : Nat} {g f : Nat → α} (h : k ≤ j) : fillTo k g f j = f j := by
  have : ¬ j < k := by omega
  simp [fillTo, this]
theorem fill_step {k : Nat} {g f : Nat → Int32} : upd (fillTo k g f) k (g k) = fillTo (k + 1) g f := by
  funext j
  by_cases h : j = k
  · subst h
    simp [upd, fillTo]
  · have : (j < k + 1) ↔ j < k := by omega
    simp [upd, fillTo, h, this]
theorem fill_step' {α : Type} {k : Nat} {g f : Nat → α} : va_up (fillTo k g f) k (g k) = fillTo (k + 1) g f := by
  funext j
  by_cases h : j = k
  · subst h
    simp [va_up, fillTo]
  · have : (j < k + 1) ↔ j < k := by omega
    simp [va_up, fillTo, h, this]
def absI (x : Int32) : Int32 := if 0 ≤ x then x else 0 - x
def maxI (x y : Int32) : Int32 := if x < y then y else x
def minI (x y : Int32) : Int32 := if y < x then y else x
section MO
variable {p : Program} {l : Launch} {e : Jvm.Env} {R : Room} {s : State} {m : MethodId} {args : Array Value} {below : List Frame} {meth : Method} {c : Code} {H : Heap} {locs : List Loc} {cells slots : Nat} {Q : State → Prop}
variable {cc : ByteArray} {pc : Nat} {ls : Array Slot} {rest : List Value} {D : va_G} {cl : List vw_C} {A : Nat → Prop} {a a0 : Nat} {tys : List (ClassId × FieldType)} {ws : va_W} {H0 : Heap} {own : String} {index : Nat}
theorem N_copyi (hx : p.tables.exec = Jvm.exec) (hb : c.code = cc) (hml : c.maxLocals = ls.size) (hown : s.vm.findClass own = some m.cls) (hts : ∀ w ∈ lw_all, w.before args s = true) (h1 : Cond.methodLink own index arraycopyName ∈ lw_all) (h2 : Cond.native arraycopyName ∈ lw_all) (h3 : Cond.static arraycopyName ∈ lw_all) (h4 : Cond.initialized "java/lang/System" ∈ lw_all) (hK : va_K D cl tys s) (hP : va_P D cl ws H) (hD : va_D A ws) (hS : va_S A H0 H locs) (q0 q1 t0 : Nat) {c0 : ClassId} {n0 n1 : Nat} {f g : Nat → Int32} (ha0 : ws[q0]? = some (a0, .inl (c0, n0, .inl f))) (ha1 : ws[q1]? = some (a, .inl (c0, n1, .inl g))) (ht0 : tys[t0]? = some (c0, .int)) {sp dp n : Nat} (hn0 : n0 < 2147483648) (hn1 : n1 < 2147483648) (h5 : sp + n ≤ n0) (h6 : dp + n ≤ n1)
    (hframes : 1 ≤ R.frames) (hlocals : (rest.map fun v => v.category).sum + (nativeFrameWords "java/lang/System" "arraycopy" 5 + 11) ≤ R.locals) (hdg : decode cc pc = .ok (.invokestatic index, 3)) {ws' : va_W} (hw : ws.set q1 (a, .inl (c0, n1, .inl (va_cpy f g sp dp n))) = ws') (kk : ∀ (H1 : Heap) (locs1 : List Loc), va_P D cl ws' H1 → va_D A ws' → va_S A H0 H1 locs1 → W p l e R s m args below meth c H1 locs1 cells slots Q (F0 m (pc + 3) ls rest)) : W p l e R s m args below meth c H locs cells slots Q (F0 m pc ls (.int (nI n) :: .int (nI dp) :: .ref a :: .int (nI sp) :: .ref a0 :: rest)) := by
  subst hw
  have e1 : (nI sp).toNatClampNeg = sp := nI_clamp (by omega)
  have e2 : (nI dp).toNatClampNeg = dp := nI_clamp (by omega)
  have e3 : (nI n).toNatClampNeg = n := nI_clamp (by omega)
  refine va_copyi hx hb hml hown (hts _ h1) (hts _ h2) (hts _ h3) (hts _ h4) hK hP hD hS q0 q1 t0 t0 ha0 ha1 ht0 ht0 rfl (nI_pos (by omega)) (nI_pos (by omega)) (nI_pos (by omega)) (by rw [e1, e3]; exact h5) (by rw [e2, e3]; exact h6) (fun i hi => rfl) hframes hlocals hdg (fun H1 locs1 g1 g2 g3 => ?_)
  rw [e1, e2, e3] at g1 g2
  exact kk H1 locs1 g1 g2 g3
theorem M_abs (hx : p.tables.exec = Jvm.exec) (hb : c.code = cc) (hml : c.maxLocals = ls.size) (hown : s.vm.findClass own = some m.cls) (hts : ∀ w ∈ lw_all, w.before args s = true) (h1 : Cond.methodLink own index Lib.Math.abs.name ∈ lw_all) (h2 : Cond.static Lib.Math.abs.name ∈ lw_all) (h3 : Cond.initialized "java/lang/Math" ∈ lw_all) (h4 : Cond.code Lib.Math.abs.name Lib.Math.abs.code 1 (some .int) ∈ lw_all) (hframes : 1 ≤ R.frames) (hlocals : (rest.map fun v => v.category).sum + 13 ≤ R.locals) (hc : cells ≤ R.cells) (hs : slots ≤ R.slots) {x : Int32} (hdg : decode cc pc = .ok (.invokestatic index, 3)) (kk : W p l e R s m args below meth c H locs cells slots Q (F0 m (pc + 3) ls (.int (absI x) :: rest))) : W p l e R s m args below meth c H locs cells slots Q (F0 m pc ls (.int x :: rest)) :=
  va_mabs hx hb hml hown (hts _ h1) (hts _ h2) (hts _ h3) (hts _ h4) hframes hlocals hc hs hdg kk
theorem M_max (hx : p.tables.exec = Jvm.exec) (hb : c.code = cc) (hml : c.maxLocals = ls.size) (hown : s.vm.findClass own = some m.cls) (hts : ∀ w ∈ lw_all, w.before args s = true) (h1 : Cond.methodLink own index Lib.Math.max.name ∈ lw_all) (h2 : Cond.static Lib.Math.max.name ∈ lw_all) (h3 : Cond.initialized "java/lang/Math" ∈ lw_all) (h4 : Cond.code Lib.Math.max.name Lib.Math.max.code 2 (some .int) ∈ lw_all) (hframes : 1 ≤ R.frames) (hlocals : (rest.map fun v => v.category).sum + 13 ≤ R.locals) (hc : cells ≤ R.cells) (hs : slots ≤ R.slots) {x y : Int32} (hdg : decode cc pc = .ok (.invokestatic index, 3)) (kk : W p l e R s m args below meth c H locs cells slots Q (F0 m (pc + 3) ls (.int (maxI x y) :: rest))) : W p l e R s m args below meth c H locs cells slots Q (F0 m pc ls (.int y :: .int x :: rest)) :=
  va_mmax hx hb hml hown (hts _ h1) (hts _ h2) (hts _ h3) (hts _ h4) hframes hlocals hc hs hdg kk
theorem M_min (hx : p.tables.exec = Jvm.exec) (hb : c.code = cc) (hml : c.maxLocals = ls.size) (hown : s.vm.findClass own = some m.cls) (hts : ∀ w ∈ lw_all, w.before args s = true) (h1 : Cond.methodLink own index Lib.Math.min.name ∈ lw_all) (h2 : Cond.static Lib.Math.min.name ∈ lw_all) (h3 : Cond.initialized "java/lang/Math" ∈ lw_all) (h4 : Cond.code Lib.Math.min.name Lib.Math.min.code 2 (some .int) ∈ lw_all) (hframes : 1 ≤ R.frames) (hlocals : (rest.map fun v => v.category).sum + 13 ≤ R.locals) (hc : cells ≤ R.cells) (hs : slots ≤ R.slots) {x y : Int32} (hdg : decode cc pc = .ok (.invokestatic index, 3)) (kk : W p l e R s m args below meth c H locs cells slots Q (F0 m (pc + 3) ls (.int (minI x y) :: rest))) : W p l e R s m args below meth c H locs cells slots Q (F0 m pc ls (.int y :: .int x :: rest)) :=
  va_mmin hx hb hml hown (hts _ h1) (hts _ h2) (hts _ h3) (hts _ h4) hframes hlocals hc hs hdg kk
/-- Object's constructor -/
theorem O_init (hx : p.tables.exec = Jvm.exec) (hb : c.code = cc) (hml : c.maxLocals = ls.size) (hown : s.vm.findClass own = some m.cls) (hts : ∀ w ∈ lw_all, w.before args s = true) (h1 : Cond.methodLink own index Lib.objectInit ∈ lw_all) (h2 : Cond.instanceMethod Lib.objectInit ∈ lw_all) (h3 : Cond.code Lib.objectInit ⟨#[0xb1]⟩ 1 none ∈ lw_all) (hdg : decode cc pc = .ok (.invokespecial index, 3)) (hframes : 1 ≤ R.frames) (hlocals : 0 + (rest.map fun v => v.category).sum + 12 ≤ R.locals) (kk : W p l e R s m args below meth c H locs cells slots Q (F0 m (pc + 3) ls rest)) : W p l e R s m args below meth c H locs cells slots Q (F0 m pc ls (.ref a :: rest)) := by
  refine W.objInit hx hb hown (hts _ h1) (hts _ h2) (hts _ h3) rfl hml.symm rfl hdg hframes hlocals ?_
  exact W.eq (g2 := F0 m (pc + 3) ls rest) rfl kk
/-- a new array of a known class -/
theorem nw_cls {D : va_G} {cl : List vw_C} {tys : List (ClassId × FieldType)} {cA cB : ClassId} {ty : FieldType} {t0 : Nat} (ht : tys[t0]? = some (cB, ty)) (h : va_K D cl (tys ++ [(cA, ty)]) s) (hp : ∀ C, ty ≠ .object C) : cA = cB := by
  have h1 := (h.2 tys.length (cA, ty) (by rw [List.getElem?_append_right (Nat.le_refl _), Nat.sub_self]; rfl)).2
  have h2 := (h.2 t0 (cB, ty) (by rw [List.getElem?_append_left (List.getElem?_eq_some_iff.mp ht).1]; exact ht)).2
  unfold va_RA at h1 h2
  cases ty with
  | object C => exact absurd rfl (hp C)
  | _ => exact Option.some.inj (h1.symm.trans h2)
theorem nw_clsO {D : va_G} {cl : List vw_C} {tys : List (ClassId × FieldType)} {cA cB : ClassId} {C : String} {t0 : Nat} (ht : tys[t0]? = some (cB, .object C)) (h : va_K D cl (tys ++ [(cA, .object C)]) s) : cA = cB := by
  have h1 := (h.2 tys.length (cA, .object C) (by rw [List.getElem?_append_right (Nat.le_refl _), Nat.sub_self]; rfl)).2
  have h2 := (h.2 t0 (cB, .object C) (by rw [List.getElem?_append_left (List.getElem?_eq_some_iff.mp ht).1]; exact ht)).2
  obtain ⟨_, _, _, _, _, h3⟩ := h1
  obtain ⟨_, _, _, _, _, h4⟩ := h2
  exact Option.some.inj (h3.symm.trans h4)
theorem A_newa (hx : p.tables.exec = Jvm.exec) (hb : c.code = cc) {atype : ArrayType} (hts : ∀ w ∈ lw_all, w.before args s = true) (harr : Cond.arrayClass (newarray.typeOf atype) ∈ lw_all) {ty : FieldType} (hty : newarray.typeOf atype = ty) (hnp : ∀ C, ty ≠ .object C) (hK : va_K D cl tys s) (hP : va_P D cl ws H) (hD : va_D A ws) (hS : va_S A H0 H locs) (hA : ∀ q, H0.size ≤ q → A q)
    {N' : Nat} {a9 : vp_A} {cB : ClassId} {t0 : Nat} (ht : tys[t0]? = some (cB, ty)) (ha : ∀ cA : ClassId, vp_cell cA a9 = arrV cA N' (fun _ => defaultValue ty)) (hn : N' < 2147483648) (hbytes : N' * componentBytes ty ≤ 536870912) (hcells : cells + 1 ≤ R.cells) (hslots : slots + N' ≤ R.slots) (hdg : decode cc pc = .ok (.newarray atype, 2))
    (kk : ∀ (q : Nat) (H1 : Heap), va_P D cl (ws ++ [(q, .inl (cB, a9))]) H1 → va_D A (ws ++ [(q, .inl (cB, a9))]) → va_S A H0 H1 locs → W p l e R s m args below meth c H1 locs (cells + 1) (slots + N') Q (F0 m (pc + 2) ls (.ref q :: rest))) : W p l e R s m args below meth c H locs cells slots Q (F0 m pc ls (.int (nI N') :: rest)) := by
  refine va_newa hx hb (hts _ harr) hty hK hP hD hS hA ha (nI_pos hn) (nI_clamp hn) hbytes hcells hslots hdg (fun q cA H1 g0 g1 g2 g3 => ?_)
  have e := nw_cls ht g0 hnp
  subst e
  exact kk q H1 g1 g2 g3
theorem A_newq (hx : p.tables.exec = Jvm.exec) (hb : c.code = cc) {C : String} (hown : s.vm.findClass own = some m.cls) (hts : ∀ w ∈ lw_all, w.before args s = true) (hcl : Cond.classLink own index C ∈ lw_all) (hov : va_AO C s) (hK : va_K D cl tys s) (hP : va_P D cl ws H) (hD : va_D A ws) (hS : va_S A H0 H locs) (hA : ∀ q, H0.size ≤ q → A q)
    {N' : Nat} {cB : ClassId} {t0 : Nat} (ht : tys[t0]? = some (cB, .object C)) (hn : N' < 2147483648) (hbytes : N' * 4 ≤ 536870912) (hcells : cells + 1 ≤ R.cells) (hslots : slots + N' ≤ R.slots) (hdg : decode cc pc = .ok (.anewarray index, 3))
    (kk : ∀ (q : Nat) (H1 : Heap), va_P D cl (ws ++ [(q, .inl (cB, N', .inr (.inr (.inr (.inr (fun _ => none))))))]) H1 → va_D A (ws ++ [(q, .inl (cB, N', .inr (.inr (.inr (.inr (fun _ => none))))))]) → va_S A H0 H1 locs → W p l e R s m args below meth c H1 locs (cells + 1) (slots + N') Q (F0 m (pc + 3) ls (.ref q :: rest))) : W p l e R s m args below meth c H locs cells slots Q (F0 m pc ls (.int (nI N') :: rest)) := by
  refine va_newq hx hb hown (hts _ hcl) hov hK hP hD hS hA (nI_pos hn) (nI_clamp hn) hbytes hcells hslots hdg (fun q cA H1 g0 g1 g2 g3 => ?_)
  have e := nw_clsO ht g0
  subst e
  exact kk q H1 g1 g2 g3
end MO
