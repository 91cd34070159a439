/-! ===== the law: what ties the component to the model ===== -/
def rm_L_law : Room := ({ frames := 8192, cells := 1200144, slots := 5496442, locals := 104096 } : Room)
/-- a sheet of the component (shades, levels, stop, why) and a row of the model -/
def RS (f : Nat → Int32) (L : Nat) (s w : Int32) (g : Nat → Int32) : Prop :=
  (∀ k, k < 64 → f k = g k) ∧ (1 ≤ L ∧ L ≤ 3) ∧ g 64 = nI L ∧ ((s = (-1) ∧ g 65 = nI 0) ∨ (¬ s = (-1) ∧ g 65 = nI 1 ∧ g 66 = s ∧ g 67 = w)) ∧ (∀ k, k < 64 → isSh (g k) = true)
/-- the saved sheets, the newest first, and the model's rows, the oldest first -/
def HI (sts : Nat) (hi : Nat → Int32) (xl : List svR) : Prop :=
  xl.length = sts ∧ sts ≤ 6 ∧ ∀ j x, xl[j]? = some x → RS x.2.2.1 x.2.2.2.1 x.2.2.2.2.1 x.2.2.2.2.2 (fun k => hi ((sts - 1 - j) * 68 + k))
/-- the snapshot, its cells ahead of the saved sheets' -/
def SNP (G : GG) (hs : Bool) (sn : Nat → Int32) (snv : Value) (N : va_W) : Prop :=
  (hs = false ∧ snv = .null ∧ N = []) ∨ (hs = true ∧ ∃ (q qa qL : Nat) (qs qw : Int32) (qf : Nat → Int32), snv = .ref q ∧ N = [oX q 1 [.ref qa, .int (nI qL), .int qs, .int qw], aI G qa 64 qf] ∧ RS qf qL qs qw sn)
def TV (G : GG) (ad : Nat → Nat) (hs : Bool) (sn : Nat → Int32) (snv : Value) (xl : List svR) (T : va_W) : Prop :=
  ∃ N T0, T = N ++ T0 ∧ SV G (ad 9) xl T0 ∧ SNP G hs sn snv N
def LR0 (st hi : Nat → Int32) (sts len : Nat) (ch : Nat → Nat) (L : Nat) (stp why : Int32) (xl : List svR) (wn wu : Nat) (w : Nat → Int64) : Prop :=
  RS st L stp why st ∧ (len ≤ 60 ∧ ∀ j, j < len → ch j ≤ 126) ∧ (BW wn wu w ∧ wn ≤ 44) ∧ HI sts hi xl
def LR (G : GG) (ad : Nat → Nat) (st hi sn : Nat → Int32) (hs : Bool) (sts len : Nat) (ch : Nat → Nat) (L : Nat) (stp why : Int32) (snv : Value) (xl : List svR) (T : va_W) (wn wu : Nat) (w : Nat → Int64) : Prop :=
  LR0 st hi sts len ch L stp why xl wn wu w ∧ TV G ad hs sn snv xl T
section LRS
variable {G : GG} {ad : Nat → Nat} {st hi sn : Nat → Int32} {hs : Bool} {sts len : Nat} {ch : Nat → Nat} {L : Nat} {stp why : Int32} {snv : Value} {xl : List svR} {T : va_W} {wn wu : Nat} {w : Nat → Int64}
theorem LR0.words (h : LR0 st hi sts len ch L stp why xl wn wu w) {wn' wu' : Nat} {w' : Nat → Int64} (h1 : BW wn' wu' w') (h2 : wn' ≤ 44) : LR0 st hi sts len ch L stp why xl wn' wu' w' := ⟨h.1, h.2.1, ⟨h1, h2⟩, h.2.2.2⟩
theorem LR0.text (h : LR0 st hi sts len ch L stp why xl wn wu w) {len' : Nat} {ch' : Nat → Nat} (h1 : len' ≤ 60) (h2 : ∀ j, j < len' → ch' j ≤ 126) : LR0 st hi sts len' ch' L stp why xl wn wu w := ⟨h.1, ⟨h1, h2⟩, h.2.2⟩
theorem LR.words (h : LR G ad st hi sn hs sts len ch L stp why snv xl T wn wu w) {wn' wu' : Nat} {w' : Nat → Int64} (h1 : BW wn' wu' w') (h2 : wn' ≤ 44) : LR G ad st hi sn hs sts len ch L stp why snv xl T wn' wu' w' := ⟨h.1.words h1 h2, h.2⟩
theorem LR.text (h : LR G ad st hi sn hs sts len ch L stp why snv xl T wn wu w) {len' : Nat} {ch' : Nat → Nat} (h1 : len' ≤ 60) (h2 : ∀ j, j < len' → ch' j ≤ 126) : LR G ad st hi sn hs sts len' ch' L stp why snv xl T wn wu w := ⟨h.1.text h1 h2, h.2⟩
theorem TV.no (h : SV G (ad 9) xl T) : TV G ad false sn .null xl T := ⟨[], T, rfl, h, Or.inl ⟨rfl, rfl, rfl⟩⟩
theorem TV.yes (h : SV G (ad 9) xl T) {q qa qL : Nat} {qs qw : Int32} {qf : Nat → Int32} (hr : RS qf qL qs qw sn) : TV G ad true sn (.ref q) xl (oX q 1 [.ref qa, .int (nI qL), .int qs, .int qw] :: aI G qa 64 qf :: T) := ⟨[_, _], T, rfl, h, Or.inr ⟨rfl, q, qa, qL, qs, qw, qf, rfl, rfl, hr⟩⟩
theorem RS.self {f g : Nat → Int32} (h : RS f L stp why g) : RS g L stp why g := ⟨fun _ _ => rfl, h.2⟩
theorem RS.edit (h : RS st L stp why st) {g : Nat → Int32} (h1 : ∀ k, k < 64 → isSh (g k) = true) (h2 : ∀ k, 64 ≤ k → g k = st k) : RS g L stp why g := by
  obtain ⟨_, b, c, d, _⟩ := h
  refine ⟨fun _ _ => rfl, b, (h2 64 (by omega)).trans c, ?_, h1⟩
  rw [h2 65 (by omega), h2 66 (by omega), h2 67 (by omega)]
  exact d
theorem RS.fill (h : RS st L stp why st) {g : Nat → Int32} (h1 : ∀ k, k < 64 → isSh (g k) = true) : RS (fillTo 64 g st) L stp why (fillTo 64 g st) :=
  h.edit (fun k hk => by rw [fill_lt hk]; exact h1 k hk) (fun k hk => fill_ge hk)
theorem RS.put (h : RS st L stp why st) {k : Nat} {t : Int32} (hk : k < 64) (ht : isSh t = true) : RS (upd st k t) L stp why (upd st k t) :=
  h.edit (fun j hj => by
    unfold upd
    split
    · exact ht
    · exact h.2.2.2.2 j hj) (fun j hj => by
    unfold upd
    exact if_neg (by omega))
theorem RS.lev (h : RS st L stp why st) {k : Nat} (h1 : 1 ≤ k) (h3 : k ≤ 3) : RS (upd st 64 (nI k)) k stp why (upd st 64 (nI k)) := by
  obtain ⟨_, b, c, d, e⟩ := h
  have n : ∀ j, ¬ j = 64 → upd st 64 (nI k) j = st j := fun j hj => by
    unfold upd
    exact if_neg hj
  refine ⟨fun _ _ => rfl, ⟨h1, h3⟩, ?_, ?_, fun j hj => by rw [n j (by omega)]; exact e j hj⟩
  · unfold upd
    exact if_pos rfl
  · rw [n 65 (by omega), n 66 (by omega), n 67 (by omega)]
    exact d
end LRS
theorem inB_n {x : Int32} {a b : Nat} (ha : a < 2147483648) (hb : b < 2147483648) (h : inB x (nI a) (nI b) = true) : ∃ r : Nat, a ≤ r ∧ r ≤ b ∧ x = nI r := by
  unfold inB at h
  rw [Bool.and_eq_true, Bool.not_eq_true', Bool.not_eq_true', decide_eq_false_iff_not, decide_eq_false_iff_not, Int32.not_lt, Int32.not_lt] at h
  have h1 : (nI a).toInt ≤ x.toInt := Int32.le_iff_toInt_le.mp h.1
  have h2 : x.toInt ≤ (nI b).toInt := Int32.le_iff_toInt_le.mp h.2
  rw [show (nI a).toInt = (a : Int) from Int32.toInt_ofNat_of_lt ha] at h1
  rw [show (nI b).toInt = (b : Int) from Int32.toInt_ofNat_of_lt hb] at h2
  refine ⟨x.toInt.toNat, by omega, by omega, ?_⟩
  apply Int32.toInt_inj.mp
  rw [show (nI x.toInt.toNat).toInt = (x.toInt.toNat : Int) from Int32.toInt_ofNat_of_lt (by omega)]
  omega
theorem cell_or {x y : Int32} : isCe x y = false ∨ ∃ r c : Nat, r < 8 ∧ c < 8 ∧ x = nI r ∧ y = nI c := by
  by_cases h : isCe x y = true
  · unfold isCe at h
    rw [Bool.and_eq_true] at h
    obtain ⟨r, _, h1, h2⟩ := inB_n (by decide) (by decide) h.1
    obtain ⟨c, _, h3, h4⟩ := inB_n (by decide) (by decide) h.2
    exact Or.inr ⟨r, c, by omega, by omega, h2, h4⟩
  · exact Or.inl (Bool.eq_false_iff.mpr h)
def LC (p : Program) (l : Launch) (e : Jvm.Env) (s : State) (m : MethodId) (meth : Method) (c : Code) (AR : Array Value) (b N9 : Nat) (xs : Nat → Int32) (G : GG) (b0 : Nat) (A : Nat → Prop) : Prop :=
  p.tables.exec = Jvm.exec ∧ c.code = cL_law ∧ meth.sig.returnType = ret ∧ meth.locks = false ∧ c.maxLocals = 9 ∧ s.vm.findClass RX0 = some m.cls ∧ (∀ w ∈ lw_all, w.before AR s = true) ∧ Env G b0 s ∧ (∀ q, s.heap.size ≤ q → A q) ∧ (∀ q, A q → b0 ≤ q) ∧ va_X b N9 xs s s.heap ∧ b < s.heap.size ∧ ¬ A b ∧ l.stackTraces = false ∧ N9 ≤ 96
/-- what the loop's head owes, at the row i -/
def Lk (p : Program) (l : Launch) (e : Jvm.Env) (s : State) (m : MethodId) (below : List Frame) (meth : Method) (c : Code) (AR : Array Value) (b : Nat) (QQ : State → Prop) (G : GG) (A : Nat → Prop) (hm h ou : Nat) (am ad : Nat → Nat) (i : Nat) : Prop :=
  ∀ (thr sts : Nat) (hs : Bool) (len at_ num many : Nat) (st hi sn pa bk li od ot ti : Nat → Int32) (ch le fi se : Nat → Nat) (snv : Value) (hsh : Int64) (L : Nat) (stp why : Int32) (li2 pa2 ot2 rm cp : Nat → Int32) (tq : Option Nat) (tl : Nat) (tt : Int32) (sm : Nat → Bool) (ln ap wa wu wn : Nat) (w : Nat → Int64) (ml : Bool) (ov : Nat → Int64) (xl : List svR) (T : va_W) (_ : LR G ad st hi sn hs sts len ch L stp why snv xl T wn wu w) (H : Heap) (locs : List Loc) (ls : Array Slot), va_P G.1 vwCl ([oM hm am thr sts hs len at_ num many, aI G (am 1) 68 st, aI G (am 2) 408 hi, aI G (am 3) 68 sn, aI G (am 4) 60 (nF ch), aI G (am 5) 64 pa, aI G (am 6) 64 bk, aI G (am 7) 8 li, aI G (am 8) 64 od, aI G (am 9) 64 ot, aI G (am 10) 9 (nF thN), aI G (am 11) 31 (nF le), aI G (am 12) 31 (nF fi), aI G (am 13) 31 (nF se), aI G (am 14) 31 ti, oC h ad snv hsh, oX (ad 1) 1 [.ref (ad 11), .int (nI L), .int stp, .int why], aI G (ad 11) 64 st, oX (ad 3) 5 [.ref (ad 12)], aI G (ad 12) 8 li2, aI G (ad 6) 64 pa2, aI G (ad 7) 64 ot2, aI G (ad 8) 64 rm, oX (ad 4) 6 [.ref (ad 13), va_rf tq, .int (nI tl), .int tt], aZ G (ad 13) 64 (bF sm), oX (ad 5) 7 [.ref (ad 14), .ref (ad 15), .int (nI ln), .int (nI ap)], oX (ad 14) 10 [.ref wa, .int (nI wu), .int (bI false)], aJ G wa wn w, aI G (ad 15) 64 cp, aR G (ad 2) 3 (orF ad), oX (ad (15 + 1)) 2 [.ref (ad (16 + 3 * 1)), .ref (ad (17 + 3 * 1)), .ref (ad (18 + 3 * 1)), .int (nI 64)], aI G (ad (16 + 3 * 1)) 64 (nF (orT 1)), aI G (ad (17 + 3 * 1)) 64 (nF (plT 1)), aI G (ad (18 + 3 * 1)) 64 (nF (bnT 1)), oX (ad (15 + 2)) 2 [.ref (ad (16 + 3 * 2)), .ref (ad (17 + 3 * 2)), .ref (ad (18 + 3 * 2)), .int (nI 64)], aI G (ad (16 + 3 * 2)) 64 (nF (orT 2)), aI G (ad (17 + 3 * 2)) 64 (nF (plT 2)), aI G (ad (18 + 3 * 2)) 64 (nF (bnT 2)), oX (ad (15 + 3)) 2 [.ref (ad (16 + 3 * 3)), .ref (ad (17 + 3 * 3)), .ref (ad (18 + 3 * 3)), .int (nI 64)], aI G (ad (16 + 3 * 3)) 64 (nF (orT 3)), aI G (ad (17 + 3 * 3)) 64 (nF (plT 3)), aI G (ad (18 + 3 * 3)) 64 (nF (bnT 3)), oX (ad 10) 12 [.ref (ad 28), .int (nI 0), .int (bI ml), .int (nI len)], aB G (ad 28) 60 (nF ch), aJ G ou 1 ov] ++ T) H → va_D A ([oM hm am thr sts hs len at_ num many, aI G (am 1) 68 st, aI G (am 2) 408 hi, aI G (am 3) 68 sn, aI G (am 4) 60 (nF ch), aI G (am 5) 64 pa, aI G (am 6) 64 bk, aI G (am 7) 8 li, aI G (am 8) 64 od, aI G (am 9) 64 ot, aI G (am 10) 9 (nF thN), aI G (am 11) 31 (nF le), aI G (am 12) 31 (nF fi), aI G (am 13) 31 (nF se), aI G (am 14) 31 ti, oC h ad snv hsh, oX (ad 1) 1 [.ref (ad 11), .int (nI L), .int stp, .int why], aI G (ad 11) 64 st, oX (ad 3) 5 [.ref (ad 12)], aI G (ad 12) 8 li2, aI G (ad 6) 64 pa2, aI G (ad 7) 64 ot2, aI G (ad 8) 64 rm, oX (ad 4) 6 [.ref (ad 13), va_rf tq, .int (nI tl), .int tt], aZ G (ad 13) 64 (bF sm), oX (ad 5) 7 [.ref (ad 14), .ref (ad 15), .int (nI ln), .int (nI ap)], oX (ad 14) 10 [.ref wa, .int (nI wu), .int (bI false)], aJ G wa wn w, aI G (ad 15) 64 cp, aR G (ad 2) 3 (orF ad), oX (ad (15 + 1)) 2 [.ref (ad (16 + 3 * 1)), .ref (ad (17 + 3 * 1)), .ref (ad (18 + 3 * 1)), .int (nI 64)], aI G (ad (16 + 3 * 1)) 64 (nF (orT 1)), aI G (ad (17 + 3 * 1)) 64 (nF (plT 1)), aI G (ad (18 + 3 * 1)) 64 (nF (bnT 1)), oX (ad (15 + 2)) 2 [.ref (ad (16 + 3 * 2)), .ref (ad (17 + 3 * 2)), .ref (ad (18 + 3 * 2)), .int (nI 64)], aI G (ad (16 + 3 * 2)) 64 (nF (orT 2)), aI G (ad (17 + 3 * 2)) 64 (nF (plT 2)), aI G (ad (18 + 3 * 2)) 64 (nF (bnT 2)), oX (ad (15 + 3)) 2 [.ref (ad (16 + 3 * 3)), .ref (ad (17 + 3 * 3)), .ref (ad (18 + 3 * 3)), .int (nI 64)], aI G (ad (16 + 3 * 3)) 64 (nF (orT 3)), aI G (ad (17 + 3 * 3)) 64 (nF (plT 3)), aI G (ad (18 + 3 * 3)) 64 (nF (bnT 3)), oX (ad 10) 12 [.ref (ad 28), .int (nI 0), .int (bI ml), .int (nI len)], aB G (ad 28) 60 (nF ch), aJ G ou 1 ov] ++ T) → va_S A s.heap H locs → lv_has ls 9 [(4, .int (nI i)), (0, .ref b), (1, .ref h), (2, .ref hm), (3, .ref ou)] → W p l e rm_L_law s m AR below meth c H locs (200 + 250 * i) (3000 + 500 * i) QQ (F0 m 23 ls [])
