/-! ===== the code: numbers ===== -/
theorem ush_n {a b : Nat} (ha : a < 2147483648) (hb : b < 32) : ((nI a).toUInt32 >>> ((nI b).toUInt32 &&& Int32.toUInt32 31)).toInt32 = nI (a / 2 ^ b) := by
  have hq : a / 2 ^ b ≤ a := Nat.div_le_self _ _
  have e1 : (nI a).toUInt32 = UInt32.ofNat a := rfl
  have e2 : (nI b).toUInt32 = UInt32.ofNat b := rfl
  have e3 : UInt32.ofNat a >>> (UInt32.ofNat b &&& 31) = UInt32.ofNat (a / 2 ^ b) := by
    apply UInt32.toNat_inj.mp
    rw [UInt32.toNat_shiftRight, UInt32.toNat_and, UInt32.toNat_ofNat_of_lt' (show a < UInt32.size by simp only [UInt32.size]; omega), UInt32.toNat_ofNat_of_lt' (show b < UInt32.size by simp only [UInt32.size]; omega), UInt32.toNat_ofNat_of_lt' (show a / 2 ^ b < UInt32.size by simp only [UInt32.size]; omega)]
    have e4 : b &&& (31 : UInt32).toNat = b := by
      have : b &&& 31 = b % 32 := Nat.and_two_pow_sub_one_eq_mod b 5
      show b &&& 31 = b
      omega
    rw [e4, Nat.mod_eq_of_lt hb, Nat.shiftRight_eq_div_pow]
  rw [e1, e2]
  show (UInt32.ofNat a >>> (UInt32.ofNat b &&& 31)).toInt32 = _
  rw [e3]
  rfl
section USH
variable {p : Program} {l : Launch} {e : Jvm.Env} {R : Room} {s : State} {m : MethodId} {args : Array Value} {below : List Frame} {meth : Method} {c : Code} {H : Heap} {locs : List Loc} {cells slots : Nat} {Q : State → Prop}
variable {cc : ByteArray} {pc : Nat} {ls : Array Slot} {rest : List Value} {D : va_G} {cl : List vw_C} {A : Nat → Prop} {a a0 : Nat} {tys : List (ClassId × FieldType)} {ws : va_W} {H0 : Heap} {own : String} {index : Nat}
theorem N_iushr {a b : Nat} (hx : p.tables.exec = Jvm.exec) (hb : c.code = cc) (d : decode cc pc = .ok (.iushr, 1)) (h : b < 32) (ha : a < 2147483648) (k : W p l e R s m args below meth c H locs cells slots Q (F0 m (pc + 1) ls (.int (nI (a / 2 ^ b)) :: rest))) : W p l e R s m args below meth c H locs cells slots Q (F0 m pc ls (.int (nI b) :: .int (nI a) :: rest)) :=
  lv_iushr hx hb d (ush_n ha h) k
end USH
theorem and1_n {a : Nat} : nI a &&& nI 1 = nI (a % 2) := by
  apply Int32.toBitVec_inj.mp
  apply BitVec.eq_of_toNat_eq
  show (BitVec.ofNat 32 a &&& BitVec.ofNat 32 1).toNat = (BitVec.ofNat 32 (a % 2)).toNat
  rw [BitVec.toNat_and, BitVec.toNat_ofNat, BitVec.toNat_ofNat, BitVec.toNat_ofNat]
  rw [show (1 : Nat) % 2 ^ 32 = 1 from rfl, Nat.and_one_is_mod]
  omega
def lgF : Nat → Nat → Nat
  | 0, _ => 0
  | f + 1, v => if v < 2 then 0 else lgF f (v / 2) + 1
/-- the highest bit of v -/
def lgN (v : Nat) : Nat := lgF 11 v
def nlzN (v : Nat) : Nat := if v < 256 then (if 16 ≤ v then (if 4 ≤ v / 16 then 25 - v / 16 / 4 / 2 else 27 - v / 16 / 2) else (if 4 ≤ v then 29 - v / 4 / 2 else 31 - v / 2)) else 23 - v / 256 / 2
theorem lg_tab : ∀ v, v < 1024 → (1 ≤ v → nlzN v = 31 - lgN v ∧ lgN v ≤ 9) := by decide +kernel
def rm_J5_numberOfLeadingZeros : Room := ({ frames := 0, cells := 0, slots := 0, locals := 0 } : Room)
set_option maxHeartbeats 400000 in
set_option maxRecDepth 100000 in
theorem t_J5_numberOfLeadingZeros (l : Launch) (G : GG) (b0 sz : Nat) (v : Nat) (hv1 : 1 ≤ v) (hv : v < 1024) : CT l yJ5_numberOfLeadingZeros cJ5_numberOfLeadingZeros 2 (some FieldType.int) (rm_J5_numberOfLeadingZeros) G b0 [.int (nI v)] [] sz (Ri G (fun (r_ : Int32) (_ : Unit) => r_ = nI (31 - lgN v)) (fun (_ : Unit) => [])) := by
  refine CT.go (by decide) (Nat.le_of_ble_eq_true rfl) (fun p e s m below meth c A ls AR QQ hx hb hr hlk hml hown hnm hts hE hA hAb hsz hP hD hS hl hQQ => ?_)
  have hK := hE.1
  have hown : s.vm.findClass RJ5 = some m.cls := hown
  have hl : lv_has ls 2 [(0, .int (nI v))] := hl
  clear hsz
  obtain ⟨g1, g2⟩ := lg_tab v hv hv1
  unfold nlzN at g1
  refine lv_iload_n hx hb dJ5_numberOfLeadingZeros_0 rfl (lv_at hl 0 rfl) ?_
  refine N_if_gt (tgt := 15) hx hb dJ5_numberOfLeadingZeros_1 (by decide) (by omega) (fun c_1 => ?_) (fun c_1 => ?_)
  · skip
    refine lv_bipush (v := nI 31) hx hb dJ5_numberOfLeadingZeros_15 (by decide) ?_
    refine lv_istore_n (lv' := [(1, .int (nI 31)), (0, .int (nI v))]) hx hb dJ5_numberOfLeadingZeros_17 rfl hl (by decide) rfl (fun ls hl => ?_)
    refine lv_iload_n hx hb dJ5_numberOfLeadingZeros_18 rfl (lv_at hl 1 rfl) ?_
    refine lv_ldcw (v := 65536) hx hb hown (hts _ q1167) dJ5_numberOfLeadingZeros_19 ?_
    refine W.eq (g2 := F0 m 22 ls [.int (nI 65536), .int (nI v)]) rfl ?_
    refine N_icmp_lt (tgt := 33) hx hb dJ5_numberOfLeadingZeros_22 (by decide) (by omega) (by omega) (fun c_22 => ?_) (fun c_22 => ?_)
    · skip
      refine lv_iload_n hx hb dJ5_numberOfLeadingZeros_33 rfl (lv_at hl 1 rfl) ?_
      refine lv_sipush (v := nI 256) hx hb dJ5_numberOfLeadingZeros_34 (by decide) ?_
      refine N_icmp_lt (tgt := 48) hx hb dJ5_numberOfLeadingZeros_37 (by decide) (by omega) (by omega) (fun c_37 => ?_) (fun c_37 => ?_)
      · skip
        refine lv_iload_n hx hb dJ5_numberOfLeadingZeros_48 rfl (lv_at hl 1 rfl) ?_
        refine lv_bipush (v := nI 16) hx hb dJ5_numberOfLeadingZeros_49 (by decide) ?_
        refine N_icmp_lt (tgt := 61) hx hb dJ5_numberOfLeadingZeros_51 (by decide) (by omega) (by omega) (fun c_51 => ?_) (fun c_51 => ?_)
        · skip
          refine lv_iload_n hx hb dJ5_numberOfLeadingZeros_61 rfl (lv_at hl 1 rfl) ?_
          refine lv_iconst (v := nI 4) hx hb dJ5_numberOfLeadingZeros_62 (by decide) ?_
          refine N_icmp_lt (tgt := 73) hx hb dJ5_numberOfLeadingZeros_63 (by decide) (by omega) (by omega) (fun c_63 => ?_) (fun c_63 => ?_)
          · skip
            refine lv_iload_n hx hb dJ5_numberOfLeadingZeros_73 rfl (lv_at hl 0 rfl) ?_
            refine lv_iload_n hx hb dJ5_numberOfLeadingZeros_74 rfl (lv_at hl 1 rfl) ?_
            refine lv_iconst (v := nI 1) hx hb dJ5_numberOfLeadingZeros_75 (by decide) ?_
            refine N_iushr hx hb dJ5_numberOfLeadingZeros_76 (by omega) (by omega) ?_
            refine N_isub hx hb dJ5_numberOfLeadingZeros_77 (by omega) ?_
            rw [hQQ]
            exact rt_i hx hb hr hlk  (()) dJ5_numberOfLeadingZeros_78 hP hD hS (by first | exact Nat.le_of_ble_eq_true rfl | (simp only [rm_J5_numberOfLeadingZeros]; omega) | omega) (by first | exact Nat.le_of_ble_eq_true rfl | (simp only [rm_J5_numberOfLeadingZeros]; omega) | omega) (by first | (exfalso; omega) | exact congrArg nI (by rw [← g1]; (repeat (first | rw [if_pos (by omega)] | rw [if_neg (by omega)]))))
          · skip
            refine lv_iinc (v := (nI 31) + (-2)) (k := 0) (lv' := [(1, .int ((nI 31) + (-2))), (0, .int (nI v))]) hx hb dJ5_numberOfLeadingZeros_66 hl rfl rfl (by decide) rfl (fun ls hl => ?_)
            have hl : lv_has ls 2 [(1, .int (nI 29)), (0, .int (nI v))] := by rw [show ((nI 31) + (-2) : Int32) = nI 29 by decide] at hl; exact hl
            refine lv_iload_n hx hb dJ5_numberOfLeadingZeros_69 rfl (lv_at hl 1 rfl) ?_
            refine lv_iconst (v := nI 2) hx hb dJ5_numberOfLeadingZeros_70 (by decide) ?_
            refine N_iushr hx hb dJ5_numberOfLeadingZeros_71 (by omega) (by omega) ?_
            refine lv_istore_n (lv' := [(0, .int (nI (v / 4))), (1, .int (nI 29))]) hx hb dJ5_numberOfLeadingZeros_72 rfl hl (by decide) rfl (fun ls hl => ?_)
            refine lv_iload_n hx hb dJ5_numberOfLeadingZeros_73 rfl (lv_at hl 1 rfl) ?_
            refine lv_iload_n hx hb dJ5_numberOfLeadingZeros_74 rfl (lv_at hl 0 rfl) ?_
            refine lv_iconst (v := nI 1) hx hb dJ5_numberOfLeadingZeros_75 (by decide) ?_
            refine N_iushr hx hb dJ5_numberOfLeadingZeros_76 (by omega) (by omega) ?_
            refine N_isub hx hb dJ5_numberOfLeadingZeros_77 (by omega) ?_
            rw [hQQ]
            exact rt_i hx hb hr hlk  (()) dJ5_numberOfLeadingZeros_78 hP hD hS (by first | exact Nat.le_of_ble_eq_true rfl | (simp only [rm_J5_numberOfLeadingZeros]; omega) | omega) (by first | exact Nat.le_of_ble_eq_true rfl | (simp only [rm_J5_numberOfLeadingZeros]; omega) | omega) (by first | (exfalso; omega) | exact congrArg nI (by rw [← g1]; (repeat (first | rw [if_pos (by omega)] | rw [if_neg (by omega)]))))
        · skip
          refine lv_iinc (v := (nI 31) + (-4)) (k := 0) (lv' := [(1, .int ((nI 31) + (-4))), (0, .int (nI v))]) hx hb dJ5_numberOfLeadingZeros_54 hl rfl rfl (by decide) rfl (fun ls hl => ?_)
          have hl : lv_has ls 2 [(1, .int (nI 27)), (0, .int (nI v))] := by rw [show ((nI 31) + (-4) : Int32) = nI 27 by decide] at hl; exact hl
          refine lv_iload_n hx hb dJ5_numberOfLeadingZeros_57 rfl (lv_at hl 1 rfl) ?_
          refine lv_iconst (v := nI 4) hx hb dJ5_numberOfLeadingZeros_58 (by decide) ?_
          refine N_iushr hx hb dJ5_numberOfLeadingZeros_59 (by omega) (by omega) ?_
          refine lv_istore_n (lv' := [(0, .int (nI (v / 16))), (1, .int (nI 27))]) hx hb dJ5_numberOfLeadingZeros_60 rfl hl (by decide) rfl (fun ls hl => ?_)
          refine lv_iload_n hx hb dJ5_numberOfLeadingZeros_61 rfl (lv_at hl 0 rfl) ?_
          refine lv_iconst (v := nI 4) hx hb dJ5_numberOfLeadingZeros_62 (by decide) ?_
          refine N_icmp_lt (tgt := 73) hx hb dJ5_numberOfLeadingZeros_63 (by decide) (by omega) (by omega) (fun c_63 => ?_) (fun c_63 => ?_)
          · skip
            refine lv_iload_n hx hb dJ5_numberOfLeadingZeros_73 rfl (lv_at hl 1 rfl) ?_
            refine lv_iload_n hx hb dJ5_numberOfLeadingZeros_74 rfl (lv_at hl 0 rfl) ?_
            refine lv_iconst (v := nI 1) hx hb dJ5_numberOfLeadingZeros_75 (by decide) ?_
            refine N_iushr hx hb dJ5_numberOfLeadingZeros_76 (by omega) (by omega) ?_
            refine N_isub hx hb dJ5_numberOfLeadingZeros_77 (by omega) ?_
            rw [hQQ]
            exact rt_i hx hb hr hlk  (()) dJ5_numberOfLeadingZeros_78 hP hD hS (by first | exact Nat.le_of_ble_eq_true rfl | (simp only [rm_J5_numberOfLeadingZeros]; omega) | omega) (by first | exact Nat.le_of_ble_eq_true rfl | (simp only [rm_J5_numberOfLeadingZeros]; omega) | omega) (by first | (exfalso; omega) | exact congrArg nI (by rw [← g1]; (repeat (first | rw [if_pos (by omega)] | rw [if_neg (by omega)]))))
          · skip
            refine lv_iinc (v := (nI 27) + (-2)) (k := 1) (lv' := [(1, .int ((nI 27) + (-2))), (0, .int (nI (v / 16)))]) hx hb dJ5_numberOfLeadingZeros_66 hl rfl rfl (by decide) rfl (fun ls hl => ?_)
            have hl : lv_has ls 2 [(1, .int (nI 25)), (0, .int (nI (v / 16)))] := by rw [show ((nI 27) + (-2) : Int32) = nI 25 by decide] at hl; exact hl
            refine lv_iload_n hx hb dJ5_numberOfLeadingZeros_69 rfl (lv_at hl 1 rfl) ?_
            refine lv_iconst (v := nI 2) hx hb dJ5_numberOfLeadingZeros_70 (by decide) ?_
            refine N_iushr hx hb dJ5_numberOfLeadingZeros_71 (by omega) (by omega) ?_
            refine lv_istore_n (lv' := [(0, .int (nI ((v / 16) / 4))), (1, .int (nI 25))]) hx hb dJ5_numberOfLeadingZeros_72 rfl hl (by decide) rfl (fun ls hl => ?_)
            refine lv_iload_n hx hb dJ5_numberOfLeadingZeros_73 rfl (lv_at hl 1 rfl) ?_
            refine lv_iload_n hx hb dJ5_numberOfLeadingZeros_74 rfl (lv_at hl 0 rfl) ?_
            refine lv_iconst (v := nI 1) hx hb dJ5_numberOfLeadingZeros_75 (by decide) ?_
            refine N_iushr hx hb dJ5_numberOfLeadingZeros_76 (by omega) (by omega) ?_
            refine N_isub hx hb dJ5_numberOfLeadingZeros_77 (by omega) ?_
            rw [hQQ]
            exact rt_i hx hb hr hlk  (()) dJ5_numberOfLeadingZeros_78 hP hD hS (by first | exact Nat.le_of_ble_eq_true rfl | (simp only [rm_J5_numberOfLeadingZeros]; omega) | omega) (by first | exact Nat.le_of_ble_eq_true rfl | (simp only [rm_J5_numberOfLeadingZeros]; omega) | omega) (by first | (exfalso; omega) | exact congrArg nI (by rw [← g1]; (repeat (first | rw [if_pos (by omega)] | rw [if_neg (by omega)]))))
      · skip
        refine lv_iinc (v := (nI 31) + (-8)) (k := 0) (lv' := [(1, .int ((nI 31) + (-8))), (0, .int (nI v))]) hx hb dJ5_numberOfLeadingZeros_40 hl rfl rfl (by decide) rfl (fun ls hl => ?_)
        have hl : lv_has ls 2 [(1, .int (nI 23)), (0, .int (nI v))] := by rw [show ((nI 31) + (-8) : Int32) = nI 23 by decide] at hl; exact hl
        refine lv_iload_n hx hb dJ5_numberOfLeadingZeros_43 rfl (lv_at hl 1 rfl) ?_
        refine lv_bipush (v := nI 8) hx hb dJ5_numberOfLeadingZeros_44 (by decide) ?_
        refine N_iushr hx hb dJ5_numberOfLeadingZeros_46 (by omega) (by omega) ?_
        refine lv_istore_n (lv' := [(0, .int (nI (v / 256))), (1, .int (nI 23))]) hx hb dJ5_numberOfLeadingZeros_47 rfl hl (by decide) rfl (fun ls hl => ?_)
        refine lv_iload_n hx hb dJ5_numberOfLeadingZeros_48 rfl (lv_at hl 0 rfl) ?_
        refine lv_bipush (v := nI 16) hx hb dJ5_numberOfLeadingZeros_49 (by decide) ?_
        refine N_icmp_lt (tgt := 61) hx hb dJ5_numberOfLeadingZeros_51 (by decide) (by omega) (by omega) (fun c_51 => ?_) (fun c_51 => ?_)
        · skip
          refine lv_iload_n hx hb dJ5_numberOfLeadingZeros_61 rfl (lv_at hl 0 rfl) ?_
          refine lv_iconst (v := nI 4) hx hb dJ5_numberOfLeadingZeros_62 (by decide) ?_
          refine N_icmp_lt (tgt := 73) hx hb dJ5_numberOfLeadingZeros_63 (by decide) (by omega) (by omega) (fun c_63 => ?_) (fun c_63 => ?_)
          · skip
            refine lv_iload_n hx hb dJ5_numberOfLeadingZeros_73 rfl (lv_at hl 1 rfl) ?_
            refine lv_iload_n hx hb dJ5_numberOfLeadingZeros_74 rfl (lv_at hl 0 rfl) ?_
            refine lv_iconst (v := nI 1) hx hb dJ5_numberOfLeadingZeros_75 (by decide) ?_
            refine N_iushr hx hb dJ5_numberOfLeadingZeros_76 (by omega) (by omega) ?_
            refine N_isub hx hb dJ5_numberOfLeadingZeros_77 (by omega) ?_
            rw [hQQ]
            exact rt_i hx hb hr hlk  (()) dJ5_numberOfLeadingZeros_78 hP hD hS (by first | exact Nat.le_of_ble_eq_true rfl | (simp only [rm_J5_numberOfLeadingZeros]; omega) | omega) (by first | exact Nat.le_of_ble_eq_true rfl | (simp only [rm_J5_numberOfLeadingZeros]; omega) | omega) (by first | (exfalso; omega) | exact congrArg nI (by rw [← g1]; (repeat (first | rw [if_pos (by omega)] | rw [if_neg (by omega)]))))
          · skip
            refine lv_iinc (v := (nI 23) + (-2)) (k := 1) (lv' := [(1, .int ((nI 23) + (-2))), (0, .int (nI (v / 256)))]) hx hb dJ5_numberOfLeadingZeros_66 hl rfl rfl (by decide) rfl (fun ls hl => ?_)
            have hl : lv_has ls 2 [(1, .int (nI 21)), (0, .int (nI (v / 256)))] := by rw [show ((nI 23) + (-2) : Int32) = nI 21 by decide] at hl; exact hl
            refine lv_iload_n hx hb dJ5_numberOfLeadingZeros_69 rfl (lv_at hl 1 rfl) ?_
            refine lv_iconst (v := nI 2) hx hb dJ5_numberOfLeadingZeros_70 (by decide) ?_
            refine N_iushr hx hb dJ5_numberOfLeadingZeros_71 (by omega) (by omega) ?_
            refine lv_istore_n (lv' := [(0, .int (nI ((v / 256) / 4))), (1, .int (nI 21))]) hx hb dJ5_numberOfLeadingZeros_72 rfl hl (by decide) rfl (fun ls hl => ?_)
            refine lv_iload_n hx hb dJ5_numberOfLeadingZeros_73 rfl (lv_at hl 1 rfl) ?_
            refine lv_iload_n hx hb dJ5_numberOfLeadingZeros_74 rfl (lv_at hl 0 rfl) ?_
            refine lv_iconst (v := nI 1) hx hb dJ5_numberOfLeadingZeros_75 (by decide) ?_
            refine N_iushr hx hb dJ5_numberOfLeadingZeros_76 (by omega) (by omega) ?_
            refine N_isub hx hb dJ5_numberOfLeadingZeros_77 (by omega) ?_
            rw [hQQ]
            exact rt_i hx hb hr hlk  (()) dJ5_numberOfLeadingZeros_78 hP hD hS (by first | exact Nat.le_of_ble_eq_true rfl | (simp only [rm_J5_numberOfLeadingZeros]; omega) | omega) (by first | exact Nat.le_of_ble_eq_true rfl | (simp only [rm_J5_numberOfLeadingZeros]; omega) | omega) (by first | (exfalso; omega) | exact congrArg nI (by rw [← g1]; (repeat (first | rw [if_pos (by omega)] | rw [if_neg (by omega)]))))
        · skip
          refine lv_iinc (v := (nI 23) + (-4)) (k := 1) (lv' := [(1, .int ((nI 23) + (-4))), (0, .int (nI (v / 256)))]) hx hb dJ5_numberOfLeadingZeros_54 hl rfl rfl (by decide) rfl (fun ls hl => ?_)
          have hl : lv_has ls 2 [(1, .int (nI 19)), (0, .int (nI (v / 256)))] := by rw [show ((nI 23) + (-4) : Int32) = nI 19 by decide] at hl; exact hl
          refine lv_iload_n hx hb dJ5_numberOfLeadingZeros_57 rfl (lv_at hl 1 rfl) ?_
          refine lv_iconst (v := nI 4) hx hb dJ5_numberOfLeadingZeros_58 (by decide) ?_
          refine N_iushr hx hb dJ5_numberOfLeadingZeros_59 (by omega) (by omega) ?_
          refine lv_istore_n (lv' := [(0, .int (nI ((v / 256) / 16))), (1, .int (nI 19))]) hx hb dJ5_numberOfLeadingZeros_60 rfl hl (by decide) rfl (fun ls hl => ?_)
          refine lv_iload_n hx hb dJ5_numberOfLeadingZeros_61 rfl (lv_at hl 0 rfl) ?_
          refine lv_iconst (v := nI 4) hx hb dJ5_numberOfLeadingZeros_62 (by decide) ?_
          refine N_icmp_lt (tgt := 73) hx hb dJ5_numberOfLeadingZeros_63 (by decide) (by omega) (by omega) (fun c_63 => ?_) (fun c_63 => ?_)
          · skip
            refine lv_iload_n hx hb dJ5_numberOfLeadingZeros_73 rfl (lv_at hl 1 rfl) ?_
            refine lv_iload_n hx hb dJ5_numberOfLeadingZeros_74 rfl (lv_at hl 0 rfl) ?_
            refine lv_iconst (v := nI 1) hx hb dJ5_numberOfLeadingZeros_75 (by decide) ?_
            refine N_iushr hx hb dJ5_numberOfLeadingZeros_76 (by omega) (by omega) ?_
            refine N_isub hx hb dJ5_numberOfLeadingZeros_77 (by omega) ?_
            rw [hQQ]
            exact rt_i hx hb hr hlk  (()) dJ5_numberOfLeadingZeros_78 hP hD hS (by first | exact Nat.le_of_ble_eq_true rfl | (simp only [rm_J5_numberOfLeadingZeros]; omega) | omega) (by first | exact Nat.le_of_ble_eq_true rfl | (simp only [rm_J5_numberOfLeadingZeros]; omega) | omega) (by first | (exfalso; omega) | exact congrArg nI (by rw [← g1]; (repeat (first | rw [if_pos (by omega)] | rw [if_neg (by omega)]))))
          · skip
            refine lv_iinc (v := (nI 19) + (-2)) (k := 1) (lv' := [(1, .int ((nI 19) + (-2))), (0, .int (nI ((v / 256) / 16)))]) hx hb dJ5_numberOfLeadingZeros_66 hl rfl rfl (by decide) rfl (fun ls hl => ?_)
            have hl : lv_has ls 2 [(1, .int (nI 17)), (0, .int (nI ((v / 256) / 16)))] := by rw [show ((nI 19) + (-2) : Int32) = nI 17 by decide] at hl; exact hl
            refine lv_iload_n hx hb dJ5_numberOfLeadingZeros_69 rfl (lv_at hl 1 rfl) ?_
            refine lv_iconst (v := nI 2) hx hb dJ5_numberOfLeadingZeros_70 (by decide) ?_
            refine N_iushr hx hb dJ5_numberOfLeadingZeros_71 (by omega) (by omega) ?_
            refine lv_istore_n (lv' := [(0, .int (nI (((v / 256) / 16) / 4))), (1, .int (nI 17))]) hx hb dJ5_numberOfLeadingZeros_72 rfl hl (by decide) rfl (fun ls hl => ?_)
            refine lv_iload_n hx hb dJ5_numberOfLeadingZeros_73 rfl (lv_at hl 1 rfl) ?_
            refine lv_iload_n hx hb dJ5_numberOfLeadingZeros_74 rfl (lv_at hl 0 rfl) ?_
            refine lv_iconst (v := nI 1) hx hb dJ5_numberOfLeadingZeros_75 (by decide) ?_
            refine N_iushr hx hb dJ5_numberOfLeadingZeros_76 (by omega) (by omega) ?_
            refine N_isub hx hb dJ5_numberOfLeadingZeros_77 (by omega) ?_
            rw [hQQ]
            exact rt_i hx hb hr hlk  (()) dJ5_numberOfLeadingZeros_78 hP hD hS (by first | exact Nat.le_of_ble_eq_true rfl | (simp only [rm_J5_numberOfLeadingZeros]; omega) | omega) (by first | exact Nat.le_of_ble_eq_true rfl | (simp only [rm_J5_numberOfLeadingZeros]; omega) | omega) (by first | (exfalso; omega) | exact congrArg nI (by rw [← g1]; (repeat (first | rw [if_pos (by omega)] | rw [if_neg (by omega)]))))
    · skip
      refine lv_iinc (v := (nI 31) + (-16)) (k := 0) (lv' := [(1, .int ((nI 31) + (-16))), (0, .int (nI v))]) hx hb dJ5_numberOfLeadingZeros_25 hl rfl rfl (by decide) rfl (fun ls hl => ?_)
      have hl : lv_has ls 2 [(1, .int (nI 15)), (0, .int (nI v))] := by rw [show ((nI 31) + (-16) : Int32) = nI 15 by decide] at hl; exact hl
      refine lv_iload_n hx hb dJ5_numberOfLeadingZeros_28 rfl (lv_at hl 1 rfl) ?_
      refine lv_bipush (v := nI 16) hx hb dJ5_numberOfLeadingZeros_29 (by decide) ?_
      refine N_iushr hx hb dJ5_numberOfLeadingZeros_31 (by omega) (by omega) ?_
      refine lv_istore_n (lv' := [(0, .int (nI (v / 65536))), (1, .int (nI 15))]) hx hb dJ5_numberOfLeadingZeros_32 rfl hl (by decide) rfl (fun ls hl => ?_)
      refine lv_iload_n hx hb dJ5_numberOfLeadingZeros_33 rfl (lv_at hl 0 rfl) ?_
      refine lv_sipush (v := nI 256) hx hb dJ5_numberOfLeadingZeros_34 (by decide) ?_
      refine N_icmp_lt (tgt := 48) hx hb dJ5_numberOfLeadingZeros_37 (by decide) (by omega) (by omega) (fun c_37 => ?_) (fun c_37 => ?_)
      · skip
        refine lv_iload_n hx hb dJ5_numberOfLeadingZeros_48 rfl (lv_at hl 0 rfl) ?_
        refine lv_bipush (v := nI 16) hx hb dJ5_numberOfLeadingZeros_49 (by decide) ?_
        refine N_icmp_lt (tgt := 61) hx hb dJ5_numberOfLeadingZeros_51 (by decide) (by omega) (by omega) (fun c_51 => ?_) (fun c_51 => ?_)
        · skip
          refine lv_iload_n hx hb dJ5_numberOfLeadingZeros_61 rfl (lv_at hl 0 rfl) ?_
          refine lv_iconst (v := nI 4) hx hb dJ5_numberOfLeadingZeros_62 (by decide) ?_
          refine N_icmp_lt (tgt := 73) hx hb dJ5_numberOfLeadingZeros_63 (by decide) (by omega) (by omega) (fun c_63 => ?_) (fun c_63 => ?_)
          · skip
            refine lv_iload_n hx hb dJ5_numberOfLeadingZeros_73 rfl (lv_at hl 1 rfl) ?_
            refine lv_iload_n hx hb dJ5_numberOfLeadingZeros_74 rfl (lv_at hl 0 rfl) ?_
            refine lv_iconst (v := nI 1) hx hb dJ5_numberOfLeadingZeros_75 (by decide) ?_
            refine N_iushr hx hb dJ5_numberOfLeadingZeros_76 (by omega) (by omega) ?_
            refine N_isub hx hb dJ5_numberOfLeadingZeros_77 (by omega) ?_
            rw [hQQ]
            exact rt_i hx hb hr hlk  (()) dJ5_numberOfLeadingZeros_78 hP hD hS (by first | exact Nat.le_of_ble_eq_true rfl | (simp only [rm_J5_numberOfLeadingZeros]; omega) | omega) (by first | exact Nat.le_of_ble_eq_true rfl | (simp only [rm_J5_numberOfLeadingZeros]; omega) | omega) (by first | (exfalso; omega) | exact congrArg nI (by rw [← g1]; (repeat (first | rw [if_pos (by omega)] | rw [if_neg (by omega)]))))
          · skip
            refine lv_iinc (v := (nI 15) + (-2)) (k := 1) (lv' := [(1, .int ((nI 15) + (-2))), (0, .int (nI (v / 65536)))]) hx hb dJ5_numberOfLeadingZeros_66 hl rfl rfl (by decide) rfl (fun ls hl => ?_)
            have hl : lv_has ls 2 [(1, .int (nI 13)), (0, .int (nI (v / 65536)))] := by rw [show ((nI 15) + (-2) : Int32) = nI 13 by decide] at hl; exact hl
            refine lv_iload_n hx hb dJ5_numberOfLeadingZeros_69 rfl (lv_at hl 1 rfl) ?_
            refine lv_iconst (v := nI 2) hx hb dJ5_numberOfLeadingZeros_70 (by decide) ?_
            refine N_iushr hx hb dJ5_numberOfLeadingZeros_71 (by omega) (by omega) ?_
            refine lv_istore_n (lv' := [(0, .int (nI ((v / 65536) / 4))), (1, .int (nI 13))]) hx hb dJ5_numberOfLeadingZeros_72 rfl hl (by decide) rfl (fun ls hl => ?_)
            refine lv_iload_n hx hb dJ5_numberOfLeadingZeros_73 rfl (lv_at hl 1 rfl) ?_
            refine lv_iload_n hx hb dJ5_numberOfLeadingZeros_74 rfl (lv_at hl 0 rfl) ?_
            refine lv_iconst (v := nI 1) hx hb dJ5_numberOfLeadingZeros_75 (by decide) ?_
            refine N_iushr hx hb dJ5_numberOfLeadingZeros_76 (by omega) (by omega) ?_
            refine N_isub hx hb dJ5_numberOfLeadingZeros_77 (by omega) ?_
            rw [hQQ]
            exact rt_i hx hb hr hlk  (()) dJ5_numberOfLeadingZeros_78 hP hD hS (by first | exact Nat.le_of_ble_eq_true rfl | (simp only [rm_J5_numberOfLeadingZeros]; omega) | omega) (by first | exact Nat.le_of_ble_eq_true rfl | (simp only [rm_J5_numberOfLeadingZeros]; omega) | omega) (by first | (exfalso; omega) | exact congrArg nI (by rw [← g1]; (repeat (first | rw [if_pos (by omega)] | rw [if_neg (by omega)]))))
        · skip
          refine lv_iinc (v := (nI 15) + (-4)) (k := 1) (lv' := [(1, .int ((nI 15) + (-4))), (0, .int (nI (v / 65536)))]) hx hb dJ5_numberOfLeadingZeros_54 hl rfl rfl (by decide) rfl (fun ls hl => ?_)
          have hl : lv_has ls 2 [(1, .int (nI 11)), (0, .int (nI (v / 65536)))] := by rw [show ((nI 15) + (-4) : Int32) = nI 11 by decide] at hl; exact hl
          refine lv_iload_n hx hb dJ5_numberOfLeadingZeros_57 rfl (lv_at hl 1 rfl) ?_
          refine lv_iconst (v := nI 4) hx hb dJ5_numberOfLeadingZeros_58 (by decide) ?_
          refine N_iushr hx hb dJ5_numberOfLeadingZeros_59 (by omega) (by omega) ?_
          refine lv_istore_n (lv' := [(0, .int (nI ((v / 65536) / 16))), (1, .int (nI 11))]) hx hb dJ5_numberOfLeadingZeros_60 rfl hl (by decide) rfl (fun ls hl => ?_)
          refine lv_iload_n hx hb dJ5_numberOfLeadingZeros_61 rfl (lv_at hl 0 rfl) ?_
          refine lv_iconst (v := nI 4) hx hb dJ5_numberOfLeadingZeros_62 (by decide) ?_
          refine N_icmp_lt (tgt := 73) hx hb dJ5_numberOfLeadingZeros_63 (by decide) (by omega) (by omega) (fun c_63 => ?_) (fun c_63 => ?_)
          · skip
            refine lv_iload_n hx hb dJ5_numberOfLeadingZeros_73 rfl (lv_at hl 1 rfl) ?_
            refine lv_iload_n hx hb dJ5_numberOfLeadingZeros_74 rfl (lv_at hl 0 rfl) ?_
            refine lv_iconst (v := nI 1) hx hb dJ5_numberOfLeadingZeros_75 (by decide) ?_
            refine N_iushr hx hb dJ5_numberOfLeadingZeros_76 (by omega) (by omega) ?_
            refine N_isub hx hb dJ5_numberOfLeadingZeros_77 (by omega) ?_
            rw [hQQ]
            exact rt_i hx hb hr hlk  (()) dJ5_numberOfLeadingZeros_78 hP hD hS (by first | exact Nat.le_of_ble_eq_true rfl | (simp only [rm_J5_numberOfLeadingZeros]; omega) | omega) (by first | exact Nat.le_of_ble_eq_true rfl | (simp only [rm_J5_numberOfLeadingZeros]; omega) | omega) (by first | (exfalso; omega) | exact congrArg nI (by rw [← g1]; (repeat (first | rw [if_pos (by omega)] | rw [if_neg (by omega)]))))
          · skip
            refine lv_iinc (v := (nI 11) + (-2)) (k := 1) (lv' := [(1, .int ((nI 11) + (-2))), (0, .int (nI ((v / 65536) / 16)))]) hx hb dJ5_numberOfLeadingZeros_66 hl rfl rfl (by decide) rfl (fun ls hl => ?_)
            have hl : lv_has ls 2 [(1, .int (nI 9)), (0, .int (nI ((v / 65536) / 16)))] := by rw [show ((nI 11) + (-2) : Int32) = nI 9 by decide] at hl; exact hl
            refine lv_iload_n hx hb dJ5_numberOfLeadingZeros_69 rfl (lv_at hl 1 rfl) ?_
            refine lv_iconst (v := nI 2) hx hb dJ5_numberOfLeadingZeros_70 (by decide) ?_
            refine N_iushr hx hb dJ5_numberOfLeadingZeros_71 (by omega) (by omega) ?_
            refine lv_istore_n (lv' := [(0, .int (nI (((v / 65536) / 16) / 4))), (1, .int (nI 9))]) hx hb dJ5_numberOfLeadingZeros_72 rfl hl (by decide) rfl (fun ls hl => ?_)
            refine lv_iload_n hx hb dJ5_numberOfLeadingZeros_73 rfl (lv_at hl 1 rfl) ?_
            refine lv_iload_n hx hb dJ5_numberOfLeadingZeros_74 rfl (lv_at hl 0 rfl) ?_
            refine lv_iconst (v := nI 1) hx hb dJ5_numberOfLeadingZeros_75 (by decide) ?_
            refine N_iushr hx hb dJ5_numberOfLeadingZeros_76 (by omega) (by omega) ?_
            refine N_isub hx hb dJ5_numberOfLeadingZeros_77 (by omega) ?_
            rw [hQQ]
            exact rt_i hx hb hr hlk  (()) dJ5_numberOfLeadingZeros_78 hP hD hS (by first | exact Nat.le_of_ble_eq_true rfl | (simp only [rm_J5_numberOfLeadingZeros]; omega) | omega) (by first | exact Nat.le_of_ble_eq_true rfl | (simp only [rm_J5_numberOfLeadingZeros]; omega) | omega) (by first | (exfalso; omega) | exact congrArg nI (by rw [← g1]; (repeat (first | rw [if_pos (by omega)] | rw [if_neg (by omega)]))))
      · skip
        refine lv_iinc (v := (nI 15) + (-8)) (k := 1) (lv' := [(1, .int ((nI 15) + (-8))), (0, .int (nI (v / 65536)))]) hx hb dJ5_numberOfLeadingZeros_40 hl rfl rfl (by decide) rfl (fun ls hl => ?_)
        have hl : lv_has ls 2 [(1, .int (nI 7)), (0, .int (nI (v / 65536)))] := by rw [show ((nI 15) + (-8) : Int32) = nI 7 by decide] at hl; exact hl
        refine lv_iload_n hx hb dJ5_numberOfLeadingZeros_43 rfl (lv_at hl 1 rfl) ?_
        refine lv_bipush (v := nI 8) hx hb dJ5_numberOfLeadingZeros_44 (by decide) ?_
        refine N_iushr hx hb dJ5_numberOfLeadingZeros_46 (by omega) (by omega) ?_
        refine lv_istore_n (lv' := [(0, .int (nI ((v / 65536) / 256))), (1, .int (nI 7))]) hx hb dJ5_numberOfLeadingZeros_47 rfl hl (by decide) rfl (fun ls hl => ?_)
        refine lv_iload_n hx hb dJ5_numberOfLeadingZeros_48 rfl (lv_at hl 0 rfl) ?_
        refine lv_bipush (v := nI 16) hx hb dJ5_numberOfLeadingZeros_49 (by decide) ?_
        refine N_icmp_lt (tgt := 61) hx hb dJ5_numberOfLeadingZeros_51 (by decide) (by omega) (by omega) (fun c_51 => ?_) (fun c_51 => ?_)
        · skip
          refine lv_iload_n hx hb dJ5_numberOfLeadingZeros_61 rfl (lv_at hl 0 rfl) ?_
          refine lv_iconst (v := nI 4) hx hb dJ5_numberOfLeadingZeros_62 (by decide) ?_
          refine N_icmp_lt (tgt := 73) hx hb dJ5_numberOfLeadingZeros_63 (by decide) (by omega) (by omega) (fun c_63 => ?_) (fun c_63 => ?_)
          · skip
            refine lv_iload_n hx hb dJ5_numberOfLeadingZeros_73 rfl (lv_at hl 1 rfl) ?_
            refine lv_iload_n hx hb dJ5_numberOfLeadingZeros_74 rfl (lv_at hl 0 rfl) ?_
            refine lv_iconst (v := nI 1) hx hb dJ5_numberOfLeadingZeros_75 (by decide) ?_
            refine N_iushr hx hb dJ5_numberOfLeadingZeros_76 (by omega) (by omega) ?_
            refine N_isub hx hb dJ5_numberOfLeadingZeros_77 (by omega) ?_
            rw [hQQ]
            exact rt_i hx hb hr hlk  (()) dJ5_numberOfLeadingZeros_78 hP hD hS (by first | exact Nat.le_of_ble_eq_true rfl | (simp only [rm_J5_numberOfLeadingZeros]; omega) | omega) (by first | exact Nat.le_of_ble_eq_true rfl | (simp only [rm_J5_numberOfLeadingZeros]; omega) | omega) (by first | (exfalso; omega) | exact congrArg nI (by rw [← g1]; (repeat (first | rw [if_pos (by omega)] | rw [if_neg (by omega)]))))
          · skip
            refine lv_iinc (v := (nI 7) + (-2)) (k := 1) (lv' := [(1, .int ((nI 7) + (-2))), (0, .int (nI ((v / 65536) / 256)))]) hx hb dJ5_numberOfLeadingZeros_66 hl rfl rfl (by decide) rfl (fun ls hl => ?_)
            have hl : lv_has ls 2 [(1, .int (nI 5)), (0, .int (nI ((v / 65536) / 256)))] := by rw [show ((nI 7) + (-2) : Int32) = nI 5 by decide] at hl; exact hl
            refine lv_iload_n hx hb dJ5_numberOfLeadingZeros_69 rfl (lv_at hl 1 rfl) ?_
            refine lv_iconst (v := nI 2) hx hb dJ5_numberOfLeadingZeros_70 (by decide) ?_
            refine N_iushr hx hb dJ5_numberOfLeadingZeros_71 (by omega) (by omega) ?_
            refine lv_istore_n (lv' := [(0, .int (nI (((v / 65536) / 256) / 4))), (1, .int (nI 5))]) hx hb dJ5_numberOfLeadingZeros_72 rfl hl (by decide) rfl (fun ls hl => ?_)
            refine lv_iload_n hx hb dJ5_numberOfLeadingZeros_73 rfl (lv_at hl 1 rfl) ?_
            refine lv_iload_n hx hb dJ5_numberOfLeadingZeros_74 rfl (lv_at hl 0 rfl) ?_
            refine lv_iconst (v := nI 1) hx hb dJ5_numberOfLeadingZeros_75 (by decide) ?_
            refine N_iushr hx hb dJ5_numberOfLeadingZeros_76 (by omega) (by omega) ?_
            refine N_isub hx hb dJ5_numberOfLeadingZeros_77 (by omega) ?_
            rw [hQQ]
            exact rt_i hx hb hr hlk  (()) dJ5_numberOfLeadingZeros_78 hP hD hS (by first | exact Nat.le_of_ble_eq_true rfl | (simp only [rm_J5_numberOfLeadingZeros]; omega) | omega) (by first | exact Nat.le_of_ble_eq_true rfl | (simp only [rm_J5_numberOfLeadingZeros]; omega) | omega) (by first | (exfalso; omega) | exact congrArg nI (by rw [← g1]; (repeat (first | rw [if_pos (by omega)] | rw [if_neg (by omega)]))))
        · skip
          refine lv_iinc (v := (nI 7) + (-4)) (k := 1) (lv' := [(1, .int ((nI 7) + (-4))), (0, .int (nI ((v / 65536) / 256)))]) hx hb dJ5_numberOfLeadingZeros_54 hl rfl rfl (by decide) rfl (fun ls hl => ?_)
          have hl : lv_has ls 2 [(1, .int (nI 3)), (0, .int (nI ((v / 65536) / 256)))] := by rw [show ((nI 7) + (-4) : Int32) = nI 3 by decide] at hl; exact hl
          refine lv_iload_n hx hb dJ5_numberOfLeadingZeros_57 rfl (lv_at hl 1 rfl) ?_
          refine lv_iconst (v := nI 4) hx hb dJ5_numberOfLeadingZeros_58 (by decide) ?_
          refine N_iushr hx hb dJ5_numberOfLeadingZeros_59 (by omega) (by omega) ?_
          refine lv_istore_n (lv' := [(0, .int (nI (((v / 65536) / 256) / 16))), (1, .int (nI 3))]) hx hb dJ5_numberOfLeadingZeros_60 rfl hl (by decide) rfl (fun ls hl => ?_)
          refine lv_iload_n hx hb dJ5_numberOfLeadingZeros_61 rfl (lv_at hl 0 rfl) ?_
          refine lv_iconst (v := nI 4) hx hb dJ5_numberOfLeadingZeros_62 (by decide) ?_
          refine N_icmp_lt (tgt := 73) hx hb dJ5_numberOfLeadingZeros_63 (by decide) (by omega) (by omega) (fun c_63 => ?_) (fun c_63 => ?_)
          · skip
            refine lv_iload_n hx hb dJ5_numberOfLeadingZeros_73 rfl (lv_at hl 1 rfl) ?_
            refine lv_iload_n hx hb dJ5_numberOfLeadingZeros_74 rfl (lv_at hl 0 rfl) ?_
            refine lv_iconst (v := nI 1) hx hb dJ5_numberOfLeadingZeros_75 (by decide) ?_
            refine N_iushr hx hb dJ5_numberOfLeadingZeros_76 (by omega) (by omega) ?_
            refine N_isub hx hb dJ5_numberOfLeadingZeros_77 (by omega) ?_
            rw [hQQ]
            exact rt_i hx hb hr hlk  (()) dJ5_numberOfLeadingZeros_78 hP hD hS (by first | exact Nat.le_of_ble_eq_true rfl | (simp only [rm_J5_numberOfLeadingZeros]; omega) | omega) (by first | exact Nat.le_of_ble_eq_true rfl | (simp only [rm_J5_numberOfLeadingZeros]; omega) | omega) (by first | (exfalso; omega) | exact congrArg nI (by rw [← g1]; (repeat (first | rw [if_pos (by omega)] | rw [if_neg (by omega)]))))
          · skip
            refine lv_iinc (v := (nI 3) + (-2)) (k := 1) (lv' := [(1, .int ((nI 3) + (-2))), (0, .int (nI (((v / 65536) / 256) / 16)))]) hx hb dJ5_numberOfLeadingZeros_66 hl rfl rfl (by decide) rfl (fun ls hl => ?_)
            have hl : lv_has ls 2 [(1, .int (nI 1)), (0, .int (nI (((v / 65536) / 256) / 16)))] := by rw [show ((nI 3) + (-2) : Int32) = nI 1 by decide] at hl; exact hl
            refine lv_iload_n hx hb dJ5_numberOfLeadingZeros_69 rfl (lv_at hl 1 rfl) ?_
            refine lv_iconst (v := nI 2) hx hb dJ5_numberOfLeadingZeros_70 (by decide) ?_
            refine N_iushr hx hb dJ5_numberOfLeadingZeros_71 (by omega) (by omega) ?_
            refine lv_istore_n (lv' := [(0, .int (nI ((((v / 65536) / 256) / 16) / 4))), (1, .int (nI 1))]) hx hb dJ5_numberOfLeadingZeros_72 rfl hl (by decide) rfl (fun ls hl => ?_)
            refine lv_iload_n hx hb dJ5_numberOfLeadingZeros_73 rfl (lv_at hl 1 rfl) ?_
            refine lv_iload_n hx hb dJ5_numberOfLeadingZeros_74 rfl (lv_at hl 0 rfl) ?_
            refine lv_iconst (v := nI 1) hx hb dJ5_numberOfLeadingZeros_75 (by decide) ?_
            refine N_iushr hx hb dJ5_numberOfLeadingZeros_76 (by omega) (by omega) ?_
            refine N_isub hx hb dJ5_numberOfLeadingZeros_77 (by omega) ?_
            rw [hQQ]
            exact rt_i hx hb hr hlk  (()) dJ5_numberOfLeadingZeros_78 hP hD hS (by first | exact Nat.le_of_ble_eq_true rfl | (simp only [rm_J5_numberOfLeadingZeros]; omega) | omega) (by first | exact Nat.le_of_ble_eq_true rfl | (simp only [rm_J5_numberOfLeadingZeros]; omega) | omega) (by first | (exfalso; omega) | exact congrArg nI (by rw [← g1]; (repeat (first | rw [if_pos (by omega)] | rw [if_neg (by omega)]))))
  · skip
    exfalso; omega
