/-! CrumbPictures -/
set_option maxRecDepth 100000
def RX1 : String := "CrumbPictures"
def TX1 : u_T := fun k => match k with
  | 0 => ("CrumbPictures", "now", "LCrumbPictures$Sheet;", true)
  | 1 => ("CrumbPictures", "orders", "[LCrumbPictures$Order;", true)
  | 2 => ("CrumbPictures", "splitter", "LCrumbPictures$Splitter;", true)
  | 3 => ("CrumbPictures", "trees", "LCrumbPictures$Trees;", true)
  | 4 => ("CrumbPictures", "code", "LCrumbPictures$Code;", true)
  | 5 => ("CrumbPictures", "parts", "[I", true)
  | 6 => ("CrumbPictures", "others", "[I", true)
  | 7 => ("CrumbPictures", "room", "[I", true)
  | 8 => ("CrumbPictures", "saved", "Ljava/util/ArrayList;", true)
  | 9 => ("CrumbPictures", "snapshot", "LCrumbPictures$Sheet;", false)
  | 10 => ("CrumbPictures", "text", "Ljava/lang/StringBuilder;", true)
  | _ => ("CrumbPictures", "hash", "J", false)
def tyX1 : Nat → FieldType := fun k => match k with
  | 0 => .object "CrumbPictures$Sheet"
  | 1 => .array (.object "CrumbPictures$Order")
  | 2 => .object "CrumbPictures$Splitter"
  | 3 => .object "CrumbPictures$Trees"
  | 4 => .object "CrumbPictures$Code"
  | 5 => .array .int
  | 6 => .array .int
  | 7 => .array .int
  | 8 => .object "java/util/ArrayList"
  | 9 => .object "CrumbPictures$Sheet"
  | 10 => .object "java/lang/StringBuilder"
  | _ => .long
abbrev wsX10 : List Cond := u_ws RX1 TX1 12
theorem nmX1 : ∀ a, a < 12 → ∀ b, b < 12 → a ≠ b → (TX1 a).2.1 ≠ (TX1 b).2.1 := by decide +kernel
theorem tyX1_ok : ∀ k, k < 12 → parseFieldDescriptor (TX1 k).2.2.1 = some (tyX1 k) := by decide +kernel
abbrev cX1_init : ByteArray := prog_1_method_6_code
def yX1_init : MethodName := ⟨RX1, "<init>", "()V"⟩
def dkwX1_init_5 : List UInt8 := [187, 0, 60, 89, 183, 0, 62, 181, 0, 63, 42, 187, 0, 67, 89, 16, 60, 183, 0, 69, 181, 0, 70, 177]
abbrev dktX1_init_5 : List UInt8 := dkwX1_init_5 ++ []
def dkwX1_init_4 : List UInt8 := [188, 10, 181, 0, 50, 42, 16, 64, 188, 10, 181, 0, 54, 42, 16, 64, 188, 10, 181, 0, 57, 42]
abbrev dktX1_init_4 : List UInt8 := dkwX1_init_4 ++ dktX1_init_5
def dkwX1_init_3 : List UInt8 := [187, 0, 36, 89, 183, 0, 38, 181, 0, 39, 42, 187, 0, 43, 89, 183, 0, 45, 181, 0, 46, 42, 16, 64]
abbrev dktX1_init_3 : List UInt8 := dkwX1_init_3 ++ dktX1_init_4
def dkwX1_init_2 : List UInt8 := [187, 0, 20, 89, 6, 183, 0, 22, 83, 181, 0, 25, 42, 187, 0, 29, 89, 183, 0, 31, 181, 0, 32, 42]
abbrev dktX1_init_2 : List UInt8 := dkwX1_init_2 ++ dktX1_init_3
def dkwX1_init_1 : List UInt8 := [187, 0, 20, 89, 4, 183, 0, 22, 83, 89, 4, 187, 0, 20, 89, 5, 183, 0, 22, 83, 89, 5]
abbrev dktX1_init_1 : List UInt8 := dkwX1_init_1 ++ dktX1_init_2
def dkwX1_init_0 : List UInt8 := [42, 183, 0, 7, 42, 187, 0, 13, 89, 183, 0, 15, 181, 0, 16, 42, 6, 189, 0, 20, 89, 3]
abbrev dktX1_init_0 : List UInt8 := dkwX1_init_0 ++ dktX1_init_1
theorem dksX1_init_0 : cX1_init.data.toList.drop 0 = dktX1_init_0 := by decide +kernel
theorem dksX1_init_1 : cX1_init.data.toList.drop 22 = dktX1_init_1 := dk_seg dksX1_init_0 22 rfl rfl
theorem dksX1_init_2 : cX1_init.data.toList.drop 44 = dktX1_init_2 := dk_seg dksX1_init_1 22 rfl rfl
theorem dksX1_init_3 : cX1_init.data.toList.drop 68 = dktX1_init_3 := dk_seg dksX1_init_2 24 rfl rfl
theorem dksX1_init_4 : cX1_init.data.toList.drop 92 = dktX1_init_4 := dk_seg dksX1_init_3 24 rfl rfl
theorem dksX1_init_5 : cX1_init.data.toList.drop 114 = dktX1_init_5 := dk_seg dksX1_init_4 22 rfl rfl
theorem dX1_init_0 : decode cX1_init 0 = .ok (.aload_n 0, 1) := dk_42 (dk_at dksX1_init_0 0 rfl rfl)
theorem dX1_init_1 : decode cX1_init 1 = .ok (.invokespecial 7, 3) := dk_183 0 7 (dk_at dksX1_init_0 1 rfl rfl)
theorem dX1_init_4 : decode cX1_init 4 = .ok (.aload_n 0, 1) := dk_42 (dk_at dksX1_init_0 4 rfl rfl)
theorem dX1_init_5 : decode cX1_init 5 = .ok (.new 13, 3) := dk_187 0 13 (dk_at dksX1_init_0 5 rfl rfl)
theorem dX1_init_8 : decode cX1_init 8 = .ok (.dup, 1) := dk_89 (dk_at dksX1_init_0 8 rfl rfl)
theorem dX1_init_9 : decode cX1_init 9 = .ok (.invokespecial 15, 3) := dk_183 0 15 (dk_at dksX1_init_0 9 rfl rfl)
theorem dX1_init_12 : decode cX1_init 12 = .ok (.putfield 16, 3) := dk_181 0 16 (dk_at dksX1_init_0 12 rfl rfl)
theorem dX1_init_15 : decode cX1_init 15 = .ok (.aload_n 0, 1) := dk_42 (dk_at dksX1_init_0 15 rfl rfl)
theorem dX1_init_16 : decode cX1_init 16 = .ok (.iconst 3, 1) := dk_6 (dk_at dksX1_init_0 16 rfl rfl)
theorem dX1_init_17 : decode cX1_init 17 = .ok (.anewarray 20, 3) := dk_189 0 20 (dk_at dksX1_init_0 17 rfl rfl)
theorem dX1_init_20 : decode cX1_init 20 = .ok (.dup, 1) := dk_89 (dk_at dksX1_init_0 20 rfl rfl)
theorem dX1_init_21 : decode cX1_init 21 = .ok (.iconst 0, 1) := dk_3 (dk_at dksX1_init_0 21 rfl rfl)
theorem dX1_init_22 : decode cX1_init 22 = .ok (.new 20, 3) := dk_187 0 20 (dk_at dksX1_init_1 0 rfl rfl)
theorem dX1_init_25 : decode cX1_init 25 = .ok (.dup, 1) := dk_89 (dk_at dksX1_init_1 3 rfl rfl)
theorem dX1_init_26 : decode cX1_init 26 = .ok (.iconst 1, 1) := dk_4 (dk_at dksX1_init_1 4 rfl rfl)
theorem dX1_init_27 : decode cX1_init 27 = .ok (.invokespecial 22, 3) := dk_183 0 22 (dk_at dksX1_init_1 5 rfl rfl)
theorem dX1_init_30 : decode cX1_init 30 = .ok (.aastore, 1) := dk_83 (dk_at dksX1_init_1 8 rfl rfl)
theorem dX1_init_31 : decode cX1_init 31 = .ok (.dup, 1) := dk_89 (dk_at dksX1_init_1 9 rfl rfl)
theorem dX1_init_32 : decode cX1_init 32 = .ok (.iconst 1, 1) := dk_4 (dk_at dksX1_init_1 10 rfl rfl)
theorem dX1_init_33 : decode cX1_init 33 = .ok (.new 20, 3) := dk_187 0 20 (dk_at dksX1_init_1 11 rfl rfl)
theorem dX1_init_36 : decode cX1_init 36 = .ok (.dup, 1) := dk_89 (dk_at dksX1_init_1 14 rfl rfl)
theorem dX1_init_37 : decode cX1_init 37 = .ok (.iconst 2, 1) := dk_5 (dk_at dksX1_init_1 15 rfl rfl)
theorem dX1_init_38 : decode cX1_init 38 = .ok (.invokespecial 22, 3) := dk_183 0 22 (dk_at dksX1_init_1 16 rfl rfl)
theorem dX1_init_41 : decode cX1_init 41 = .ok (.aastore, 1) := dk_83 (dk_at dksX1_init_1 19 rfl rfl)
theorem dX1_init_42 : decode cX1_init 42 = .ok (.dup, 1) := dk_89 (dk_at dksX1_init_1 20 rfl rfl)
theorem dX1_init_43 : decode cX1_init 43 = .ok (.iconst 2, 1) := dk_5 (dk_at dksX1_init_1 21 rfl rfl)
theorem dX1_init_44 : decode cX1_init 44 = .ok (.new 20, 3) := dk_187 0 20 (dk_at dksX1_init_2 0 rfl rfl)
theorem dX1_init_47 : decode cX1_init 47 = .ok (.dup, 1) := dk_89 (dk_at dksX1_init_2 3 rfl rfl)
theorem dX1_init_48 : decode cX1_init 48 = .ok (.iconst 3, 1) := dk_6 (dk_at dksX1_init_2 4 rfl rfl)
theorem dX1_init_49 : decode cX1_init 49 = .ok (.invokespecial 22, 3) := dk_183 0 22 (dk_at dksX1_init_2 5 rfl rfl)
theorem dX1_init_52 : decode cX1_init 52 = .ok (.aastore, 1) := dk_83 (dk_at dksX1_init_2 8 rfl rfl)
theorem dX1_init_53 : decode cX1_init 53 = .ok (.putfield 25, 3) := dk_181 0 25 (dk_at dksX1_init_2 9 rfl rfl)
theorem dX1_init_56 : decode cX1_init 56 = .ok (.aload_n 0, 1) := dk_42 (dk_at dksX1_init_2 12 rfl rfl)
theorem dX1_init_57 : decode cX1_init 57 = .ok (.new 29, 3) := dk_187 0 29 (dk_at dksX1_init_2 13 rfl rfl)
theorem dX1_init_60 : decode cX1_init 60 = .ok (.dup, 1) := dk_89 (dk_at dksX1_init_2 16 rfl rfl)
theorem dX1_init_61 : decode cX1_init 61 = .ok (.invokespecial 31, 3) := dk_183 0 31 (dk_at dksX1_init_2 17 rfl rfl)
theorem dX1_init_64 : decode cX1_init 64 = .ok (.putfield 32, 3) := dk_181 0 32 (dk_at dksX1_init_2 20 rfl rfl)
theorem dX1_init_67 : decode cX1_init 67 = .ok (.aload_n 0, 1) := dk_42 (dk_at dksX1_init_2 23 rfl rfl)
theorem dX1_init_68 : decode cX1_init 68 = .ok (.new 36, 3) := dk_187 0 36 (dk_at dksX1_init_3 0 rfl rfl)
theorem dX1_init_71 : decode cX1_init 71 = .ok (.dup, 1) := dk_89 (dk_at dksX1_init_3 3 rfl rfl)
theorem dX1_init_72 : decode cX1_init 72 = .ok (.invokespecial 38, 3) := dk_183 0 38 (dk_at dksX1_init_3 4 rfl rfl)
theorem dX1_init_75 : decode cX1_init 75 = .ok (.putfield 39, 3) := dk_181 0 39 (dk_at dksX1_init_3 7 rfl rfl)
theorem dX1_init_78 : decode cX1_init 78 = .ok (.aload_n 0, 1) := dk_42 (dk_at dksX1_init_3 10 rfl rfl)
theorem dX1_init_79 : decode cX1_init 79 = .ok (.new 43, 3) := dk_187 0 43 (dk_at dksX1_init_3 11 rfl rfl)
theorem dX1_init_82 : decode cX1_init 82 = .ok (.dup, 1) := dk_89 (dk_at dksX1_init_3 14 rfl rfl)
theorem dX1_init_83 : decode cX1_init 83 = .ok (.invokespecial 45, 3) := dk_183 0 45 (dk_at dksX1_init_3 15 rfl rfl)
theorem dX1_init_86 : decode cX1_init 86 = .ok (.putfield 46, 3) := dk_181 0 46 (dk_at dksX1_init_3 18 rfl rfl)
theorem dX1_init_89 : decode cX1_init 89 = .ok (.aload_n 0, 1) := dk_42 (dk_at dksX1_init_3 21 rfl rfl)
theorem dX1_init_90 : decode cX1_init 90 = .ok (.bipush 64, 2) := dk_16 64 (dk_at dksX1_init_3 22 rfl rfl)
theorem dX1_init_92 : decode cX1_init 92 = .ok (.newarray .int, 2) := dk_188_10 (dk_at dksX1_init_4 0 rfl rfl)
theorem dX1_init_94 : decode cX1_init 94 = .ok (.putfield 50, 3) := dk_181 0 50 (dk_at dksX1_init_4 2 rfl rfl)
theorem dX1_init_97 : decode cX1_init 97 = .ok (.aload_n 0, 1) := dk_42 (dk_at dksX1_init_4 5 rfl rfl)
theorem dX1_init_98 : decode cX1_init 98 = .ok (.bipush 64, 2) := dk_16 64 (dk_at dksX1_init_4 6 rfl rfl)
theorem dX1_init_100 : decode cX1_init 100 = .ok (.newarray .int, 2) := dk_188_10 (dk_at dksX1_init_4 8 rfl rfl)
theorem dX1_init_102 : decode cX1_init 102 = .ok (.putfield 54, 3) := dk_181 0 54 (dk_at dksX1_init_4 10 rfl rfl)
theorem dX1_init_105 : decode cX1_init 105 = .ok (.aload_n 0, 1) := dk_42 (dk_at dksX1_init_4 13 rfl rfl)
theorem dX1_init_106 : decode cX1_init 106 = .ok (.bipush 64, 2) := dk_16 64 (dk_at dksX1_init_4 14 rfl rfl)
theorem dX1_init_108 : decode cX1_init 108 = .ok (.newarray .int, 2) := dk_188_10 (dk_at dksX1_init_4 16 rfl rfl)
theorem dX1_init_110 : decode cX1_init 110 = .ok (.putfield 57, 3) := dk_181 0 57 (dk_at dksX1_init_4 18 rfl rfl)
theorem dX1_init_113 : decode cX1_init 113 = .ok (.aload_n 0, 1) := dk_42 (dk_at dksX1_init_4 21 rfl rfl)
theorem dX1_init_114 : decode cX1_init 114 = .ok (.new 60, 3) := dk_187 0 60 (dk_at dksX1_init_5 0 rfl rfl)
theorem dX1_init_117 : decode cX1_init 117 = .ok (.dup, 1) := dk_89 (dk_at dksX1_init_5 3 rfl rfl)
theorem dX1_init_118 : decode cX1_init 118 = .ok (.invokespecial 62, 3) := dk_183 0 62 (dk_at dksX1_init_5 4 rfl rfl)
theorem dX1_init_121 : decode cX1_init 121 = .ok (.putfield 63, 3) := dk_181 0 63 (dk_at dksX1_init_5 7 rfl rfl)
theorem dX1_init_124 : decode cX1_init 124 = .ok (.aload_n 0, 1) := dk_42 (dk_at dksX1_init_5 10 rfl rfl)
theorem dX1_init_125 : decode cX1_init 125 = .ok (.new 67, 3) := dk_187 0 67 (dk_at dksX1_init_5 11 rfl rfl)
theorem dX1_init_128 : decode cX1_init 128 = .ok (.dup, 1) := dk_89 (dk_at dksX1_init_5 14 rfl rfl)
theorem dX1_init_129 : decode cX1_init 129 = .ok (.bipush 60, 2) := dk_16 60 (dk_at dksX1_init_5 15 rfl rfl)
theorem dX1_init_131 : decode cX1_init 131 = .ok (.invokespecial 69, 3) := dk_183 0 69 (dk_at dksX1_init_5 17 rfl rfl)
theorem dX1_init_134 : decode cX1_init 134 = .ok (.putfield 70, 3) := dk_181 0 70 (dk_at dksX1_init_5 20 rfl rfl)
theorem dX1_init_137 : decode cX1_init 137 = .ok (.return_, 1) := dk_177 (dk_at dksX1_init_5 23 rfl rfl)
abbrev cX1_bandTold : ByteArray := prog_1_method_5_code
def yX1_bandTold : MethodName := ⟨RX1, "bandTold", "(II)I"⟩
def dkwX1_bandTold_2 : List UInt8 := [16, 8, 108, 29, 161, 0, 7, 5, 167, 0, 4, 3, 96, 172]
abbrev dktX1_bandTold_2 : List UInt8 := dkwX1_bandTold_2 ++ []
def dkwX1_bandTold_1 : List UInt8 := [167, 0, 36, 6, 28, 4, 100, 104, 26, 16, 8, 112, 29, 161, 0, 7, 4, 167, 0, 4, 3, 96, 26]
abbrev dktX1_bandTold_1 : List UInt8 := dkwX1_bandTold_1 ++ dktX1_bandTold_2
def dkwX1_bandTold_0 : List UInt8 := [26, 27, 184, 0, 3, 61, 28, 154, 0, 7, 3, 167, 0, 7, 16, 8, 28, 122, 62, 28, 154, 0, 7, 3]
abbrev dktX1_bandTold_0 : List UInt8 := dkwX1_bandTold_0 ++ dktX1_bandTold_1
theorem dksX1_bandTold_0 : cX1_bandTold.data.toList.drop 0 = dktX1_bandTold_0 := by decide +kernel
theorem dksX1_bandTold_1 : cX1_bandTold.data.toList.drop 24 = dktX1_bandTold_1 := dk_seg dksX1_bandTold_0 24 rfl rfl
theorem dksX1_bandTold_2 : cX1_bandTold.data.toList.drop 47 = dktX1_bandTold_2 := dk_seg dksX1_bandTold_1 23 rfl rfl
theorem dX1_bandTold_0 : decode cX1_bandTold 0 = .ok (.iload_n 0, 1) := dk_26 (dk_at dksX1_bandTold_0 0 rfl rfl)
theorem dX1_bandTold_1 : decode cX1_bandTold 1 = .ok (.iload_n 1, 1) := dk_27 (dk_at dksX1_bandTold_0 1 rfl rfl)
theorem dX1_bandTold_2 : decode cX1_bandTold 2 = .ok (.invokestatic 3, 3) := dk_184 0 3 (dk_at dksX1_bandTold_0 2 rfl rfl)
theorem dX1_bandTold_5 : decode cX1_bandTold 5 = .ok (.istore_n 2, 1) := dk_61 (dk_at dksX1_bandTold_0 5 rfl rfl)
theorem dX1_bandTold_6 : decode cX1_bandTold 6 = .ok (.iload_n 2, 1) := dk_28 (dk_at dksX1_bandTold_0 6 rfl rfl)
theorem dX1_bandTold_7 : decode cX1_bandTold 7 = .ok (.ifCond .ne 7, 3) := dk_154 0 7 (dk_at dksX1_bandTold_0 7 rfl rfl)
theorem dX1_bandTold_10 : decode cX1_bandTold 10 = .ok (.iconst 0, 1) := dk_3 (dk_at dksX1_bandTold_0 10 rfl rfl)
theorem dX1_bandTold_11 : decode cX1_bandTold 11 = .ok (.goto 7, 3) := dk_167 0 7 (dk_at dksX1_bandTold_0 11 rfl rfl)
theorem dX1_bandTold_14 : decode cX1_bandTold 14 = .ok (.bipush 8, 2) := dk_16 8 (dk_at dksX1_bandTold_0 14 rfl rfl)
theorem dX1_bandTold_16 : decode cX1_bandTold 16 = .ok (.iload_n 2, 1) := dk_28 (dk_at dksX1_bandTold_0 16 rfl rfl)
theorem dX1_bandTold_17 : decode cX1_bandTold 17 = .ok (.ishr, 1) := dk_122 (dk_at dksX1_bandTold_0 17 rfl rfl)
theorem dX1_bandTold_18 : decode cX1_bandTold 18 = .ok (.istore_n 3, 1) := dk_62 (dk_at dksX1_bandTold_0 18 rfl rfl)
theorem dX1_bandTold_19 : decode cX1_bandTold 19 = .ok (.iload_n 2, 1) := dk_28 (dk_at dksX1_bandTold_0 19 rfl rfl)
theorem dX1_bandTold_20 : decode cX1_bandTold 20 = .ok (.ifCond .ne 7, 3) := dk_154 0 7 (dk_at dksX1_bandTold_0 20 rfl rfl)
theorem dX1_bandTold_23 : decode cX1_bandTold 23 = .ok (.iconst 0, 1) := dk_3 (dk_at dksX1_bandTold_0 23 rfl rfl)
theorem dX1_bandTold_24 : decode cX1_bandTold 24 = .ok (.goto 36, 3) := dk_167 0 36 (dk_at dksX1_bandTold_1 0 rfl rfl)
theorem dX1_bandTold_27 : decode cX1_bandTold 27 = .ok (.iconst 3, 1) := dk_6 (dk_at dksX1_bandTold_1 3 rfl rfl)
theorem dX1_bandTold_28 : decode cX1_bandTold 28 = .ok (.iload_n 2, 1) := dk_28 (dk_at dksX1_bandTold_1 4 rfl rfl)
theorem dX1_bandTold_29 : decode cX1_bandTold 29 = .ok (.iconst 1, 1) := dk_4 (dk_at dksX1_bandTold_1 5 rfl rfl)
theorem dX1_bandTold_30 : decode cX1_bandTold 30 = .ok (.isub, 1) := dk_100 (dk_at dksX1_bandTold_1 6 rfl rfl)
theorem dX1_bandTold_31 : decode cX1_bandTold 31 = .ok (.imul, 1) := dk_104 (dk_at dksX1_bandTold_1 7 rfl rfl)
theorem dX1_bandTold_32 : decode cX1_bandTold 32 = .ok (.iload_n 0, 1) := dk_26 (dk_at dksX1_bandTold_1 8 rfl rfl)
theorem dX1_bandTold_33 : decode cX1_bandTold 33 = .ok (.bipush 8, 2) := dk_16 8 (dk_at dksX1_bandTold_1 9 rfl rfl)
theorem dX1_bandTold_35 : decode cX1_bandTold 35 = .ok (.irem, 1) := dk_112 (dk_at dksX1_bandTold_1 11 rfl rfl)
theorem dX1_bandTold_36 : decode cX1_bandTold 36 = .ok (.iload_n 3, 1) := dk_29 (dk_at dksX1_bandTold_1 12 rfl rfl)
theorem dX1_bandTold_37 : decode cX1_bandTold 37 = .ok (.if_icmp .lt 7, 3) := dk_161 0 7 (dk_at dksX1_bandTold_1 13 rfl rfl)
theorem dX1_bandTold_40 : decode cX1_bandTold 40 = .ok (.iconst 1, 1) := dk_4 (dk_at dksX1_bandTold_1 16 rfl rfl)
theorem dX1_bandTold_41 : decode cX1_bandTold 41 = .ok (.goto 4, 3) := dk_167 0 4 (dk_at dksX1_bandTold_1 17 rfl rfl)
theorem dX1_bandTold_44 : decode cX1_bandTold 44 = .ok (.iconst 0, 1) := dk_3 (dk_at dksX1_bandTold_1 20 rfl rfl)
theorem dX1_bandTold_45 : decode cX1_bandTold 45 = .ok (.iadd, 1) := dk_96 (dk_at dksX1_bandTold_1 21 rfl rfl)
theorem dX1_bandTold_46 : decode cX1_bandTold 46 = .ok (.iload_n 0, 1) := dk_26 (dk_at dksX1_bandTold_1 22 rfl rfl)
theorem dX1_bandTold_47 : decode cX1_bandTold 47 = .ok (.bipush 8, 2) := dk_16 8 (dk_at dksX1_bandTold_2 0 rfl rfl)
theorem dX1_bandTold_49 : decode cX1_bandTold 49 = .ok (.idiv, 1) := dk_108 (dk_at dksX1_bandTold_2 2 rfl rfl)
theorem dX1_bandTold_50 : decode cX1_bandTold 50 = .ok (.iload_n 3, 1) := dk_29 (dk_at dksX1_bandTold_2 3 rfl rfl)
theorem dX1_bandTold_51 : decode cX1_bandTold 51 = .ok (.if_icmp .lt 7, 3) := dk_161 0 7 (dk_at dksX1_bandTold_2 4 rfl rfl)
theorem dX1_bandTold_54 : decode cX1_bandTold 54 = .ok (.iconst 2, 1) := dk_5 (dk_at dksX1_bandTold_2 7 rfl rfl)
theorem dX1_bandTold_55 : decode cX1_bandTold 55 = .ok (.goto 4, 3) := dk_167 0 4 (dk_at dksX1_bandTold_2 8 rfl rfl)
theorem dX1_bandTold_58 : decode cX1_bandTold 58 = .ok (.iconst 0, 1) := dk_3 (dk_at dksX1_bandTold_2 11 rfl rfl)
theorem dX1_bandTold_59 : decode cX1_bandTold 59 = .ok (.iadd, 1) := dk_96 (dk_at dksX1_bandTold_2 12 rfl rfl)
theorem dX1_bandTold_60 : decode cX1_bandTold 60 = .ok (.ireturn, 1) := dk_172 (dk_at dksX1_bandTold_2 13 rfl rfl)
abbrev cX1_levelOf : ByteArray := prog_1_method_4_code
def yX1_levelOf : MethodName := ⟨RX1, "levelOf", "(II)I"⟩
def dkwX1_levelOf_2 : List UInt8 := [21, 4, 27, 164, 0, 7, 3, 167, 0, 5, 21, 4, 172]
abbrev dktX1_levelOf_2 : List UInt8 := dkwX1_levelOf_2 ++ []
def dkwX1_levelOf_1 : List UInt8 := [21, 5, 162, 0, 21, 29, 21, 5, 162, 0, 15, 132, 4, 1, 21, 5, 5, 108, 54, 5, 167, 255, 229]
abbrev dktX1_levelOf_1 : List UInt8 := dkwX1_levelOf_1 ++ dktX1_levelOf_2
def dkwX1_levelOf_0 : List UInt8 := [26, 16, 8, 108, 61, 26, 16, 8, 112, 62, 4, 54, 4, 7, 54, 5, 21, 4, 27, 163, 0, 27, 28]
abbrev dktX1_levelOf_0 : List UInt8 := dkwX1_levelOf_0 ++ dktX1_levelOf_1
theorem dksX1_levelOf_0 : cX1_levelOf.data.toList.drop 0 = dktX1_levelOf_0 := by decide +kernel
theorem dksX1_levelOf_1 : cX1_levelOf.data.toList.drop 23 = dktX1_levelOf_1 := dk_seg dksX1_levelOf_0 23 rfl rfl
theorem dksX1_levelOf_2 : cX1_levelOf.data.toList.drop 46 = dktX1_levelOf_2 := dk_seg dksX1_levelOf_1 23 rfl rfl
theorem dX1_levelOf_0 : decode cX1_levelOf 0 = .ok (.iload_n 0, 1) := dk_26 (dk_at dksX1_levelOf_0 0 rfl rfl)
theorem dX1_levelOf_1 : decode cX1_levelOf 1 = .ok (.bipush 8, 2) := dk_16 8 (dk_at dksX1_levelOf_0 1 rfl rfl)
theorem dX1_levelOf_3 : decode cX1_levelOf 3 = .ok (.idiv, 1) := dk_108 (dk_at dksX1_levelOf_0 3 rfl rfl)
theorem dX1_levelOf_4 : decode cX1_levelOf 4 = .ok (.istore_n 2, 1) := dk_61 (dk_at dksX1_levelOf_0 4 rfl rfl)
theorem dX1_levelOf_5 : decode cX1_levelOf 5 = .ok (.iload_n 0, 1) := dk_26 (dk_at dksX1_levelOf_0 5 rfl rfl)
theorem dX1_levelOf_6 : decode cX1_levelOf 6 = .ok (.bipush 8, 2) := dk_16 8 (dk_at dksX1_levelOf_0 6 rfl rfl)
theorem dX1_levelOf_8 : decode cX1_levelOf 8 = .ok (.irem, 1) := dk_112 (dk_at dksX1_levelOf_0 8 rfl rfl)
theorem dX1_levelOf_9 : decode cX1_levelOf 9 = .ok (.istore_n 3, 1) := dk_62 (dk_at dksX1_levelOf_0 9 rfl rfl)
theorem dX1_levelOf_10 : decode cX1_levelOf 10 = .ok (.iconst 1, 1) := dk_4 (dk_at dksX1_levelOf_0 10 rfl rfl)
theorem dX1_levelOf_11 : decode cX1_levelOf 11 = .ok (.istore 4, 2) := dk_54 4 (dk_at dksX1_levelOf_0 11 rfl rfl)
theorem dX1_levelOf_13 : decode cX1_levelOf 13 = .ok (.iconst 4, 1) := dk_7 (dk_at dksX1_levelOf_0 13 rfl rfl)
theorem dX1_levelOf_14 : decode cX1_levelOf 14 = .ok (.istore 5, 2) := dk_54 5 (dk_at dksX1_levelOf_0 14 rfl rfl)
theorem dX1_levelOf_16 : decode cX1_levelOf 16 = .ok (.iload 4, 2) := dk_21 4 (dk_at dksX1_levelOf_0 16 rfl rfl)
theorem dX1_levelOf_18 : decode cX1_levelOf 18 = .ok (.iload_n 1, 1) := dk_27 (dk_at dksX1_levelOf_0 18 rfl rfl)
theorem dX1_levelOf_19 : decode cX1_levelOf 19 = .ok (.if_icmp .gt 27, 3) := dk_163 0 27 (dk_at dksX1_levelOf_0 19 rfl rfl)
theorem dX1_levelOf_22 : decode cX1_levelOf 22 = .ok (.iload_n 2, 1) := dk_28 (dk_at dksX1_levelOf_0 22 rfl rfl)
theorem dX1_levelOf_23 : decode cX1_levelOf 23 = .ok (.iload 5, 2) := dk_21 5 (dk_at dksX1_levelOf_1 0 rfl rfl)
theorem dX1_levelOf_25 : decode cX1_levelOf 25 = .ok (.if_icmp .ge 21, 3) := dk_162 0 21 (dk_at dksX1_levelOf_1 2 rfl rfl)
theorem dX1_levelOf_28 : decode cX1_levelOf 28 = .ok (.iload_n 3, 1) := dk_29 (dk_at dksX1_levelOf_1 5 rfl rfl)
theorem dX1_levelOf_29 : decode cX1_levelOf 29 = .ok (.iload 5, 2) := dk_21 5 (dk_at dksX1_levelOf_1 6 rfl rfl)
theorem dX1_levelOf_31 : decode cX1_levelOf 31 = .ok (.if_icmp .ge 15, 3) := dk_162 0 15 (dk_at dksX1_levelOf_1 8 rfl rfl)
theorem dX1_levelOf_34 : decode cX1_levelOf 34 = .ok (.iinc 4 1, 3) := dk_132 4 1 (dk_at dksX1_levelOf_1 11 rfl rfl)
theorem dX1_levelOf_37 : decode cX1_levelOf 37 = .ok (.iload 5, 2) := dk_21 5 (dk_at dksX1_levelOf_1 14 rfl rfl)
theorem dX1_levelOf_39 : decode cX1_levelOf 39 = .ok (.iconst 2, 1) := dk_5 (dk_at dksX1_levelOf_1 16 rfl rfl)
theorem dX1_levelOf_40 : decode cX1_levelOf 40 = .ok (.idiv, 1) := dk_108 (dk_at dksX1_levelOf_1 17 rfl rfl)
theorem dX1_levelOf_41 : decode cX1_levelOf 41 = .ok (.istore 5, 2) := dk_54 5 (dk_at dksX1_levelOf_1 18 rfl rfl)
theorem dX1_levelOf_43 : decode cX1_levelOf 43 = .ok (.goto (-27), 3) := dk_167 255 229 (dk_at dksX1_levelOf_1 20 rfl rfl)
theorem dX1_levelOf_46 : decode cX1_levelOf 46 = .ok (.iload 4, 2) := dk_21 4 (dk_at dksX1_levelOf_2 0 rfl rfl)
theorem dX1_levelOf_48 : decode cX1_levelOf 48 = .ok (.iload_n 1, 1) := dk_27 (dk_at dksX1_levelOf_2 2 rfl rfl)
theorem dX1_levelOf_49 : decode cX1_levelOf 49 = .ok (.if_icmp .le 7, 3) := dk_164 0 7 (dk_at dksX1_levelOf_2 3 rfl rfl)
theorem dX1_levelOf_52 : decode cX1_levelOf 52 = .ok (.iconst 0, 1) := dk_3 (dk_at dksX1_levelOf_2 6 rfl rfl)
theorem dX1_levelOf_53 : decode cX1_levelOf 53 = .ok (.goto 5, 3) := dk_167 0 5 (dk_at dksX1_levelOf_2 7 rfl rfl)
theorem dX1_levelOf_56 : decode cX1_levelOf 56 = .ok (.iload 4, 2) := dk_21 4 (dk_at dksX1_levelOf_2 10 rfl rfl)
theorem dX1_levelOf_58 : decode cX1_levelOf 58 = .ok (.ireturn, 1) := dk_172 (dk_at dksX1_levelOf_2 12 rfl rfl)
abbrev cX1_turnRight : ByteArray := prog_1_method_25_code
def yX1_turnRight : MethodName := ⟨RX1, "turnRight", "()I"⟩
def dkwX1_turnRight_0 : List UInt8 := [42, 182, 0, 127, 42, 180, 0, 16, 42, 180, 0, 57, 3, 182, 0, 195, 172]
abbrev dktX1_turnRight_0 : List UInt8 := dkwX1_turnRight_0 ++ []
theorem dksX1_turnRight_0 : cX1_turnRight.data.toList.drop 0 = dktX1_turnRight_0 := by decide +kernel
theorem dX1_turnRight_0 : decode cX1_turnRight 0 = .ok (.aload_n 0, 1) := dk_42 (dk_at dksX1_turnRight_0 0 rfl rfl)
theorem dX1_turnRight_1 : decode cX1_turnRight 1 = .ok (.invokevirtual 127, 3) := dk_182 0 127 (dk_at dksX1_turnRight_0 1 rfl rfl)
theorem dX1_turnRight_4 : decode cX1_turnRight 4 = .ok (.aload_n 0, 1) := dk_42 (dk_at dksX1_turnRight_0 4 rfl rfl)
theorem dX1_turnRight_5 : decode cX1_turnRight 5 = .ok (.getfield 16, 3) := dk_180 0 16 (dk_at dksX1_turnRight_0 5 rfl rfl)
theorem dX1_turnRight_8 : decode cX1_turnRight 8 = .ok (.aload_n 0, 1) := dk_42 (dk_at dksX1_turnRight_0 8 rfl rfl)
theorem dX1_turnRight_9 : decode cX1_turnRight 9 = .ok (.getfield 57, 3) := dk_180 0 57 (dk_at dksX1_turnRight_0 9 rfl rfl)
theorem dX1_turnRight_12 : decode cX1_turnRight 12 = .ok (.iconst 0, 1) := dk_3 (dk_at dksX1_turnRight_0 12 rfl rfl)
theorem dX1_turnRight_13 : decode cX1_turnRight 13 = .ok (.invokevirtual 195, 3) := dk_182 0 195 (dk_at dksX1_turnRight_0 13 rfl rfl)
theorem dX1_turnRight_16 : decode cX1_turnRight 16 = .ok (.ireturn, 1) := dk_172 (dk_at dksX1_turnRight_0 16 rfl rfl)
abbrev cX1_save : ByteArray := prog_1_method_7_code
def yX1_save : MethodName := ⟨RX1, "save", "()V"⟩
def dkwX1_save_2 : List UInt8 := [182, 0, 86, 87, 177]
abbrev dktX1_save_2 : List UInt8 := dkwX1_save_2 ++ []
def dkwX1_save_1 : List UInt8 := [167, 0, 10, 187, 0, 13, 89, 183, 0, 15, 76, 42, 180, 0, 63, 43, 42, 180, 0, 16, 182, 0, 82]
abbrev dktX1_save_1 : List UInt8 := dkwX1_save_1 ++ dktX1_save_2
def dkwX1_save_0 : List UInt8 := [42, 180, 0, 63, 182, 0, 74, 16, 6, 160, 0, 17, 42, 180, 0, 63, 3, 182, 0, 78, 192, 0, 13]
abbrev dktX1_save_0 : List UInt8 := dkwX1_save_0 ++ dktX1_save_1
theorem dksX1_save_0 : cX1_save.data.toList.drop 0 = dktX1_save_0 := by decide +kernel
theorem dksX1_save_1 : cX1_save.data.toList.drop 23 = dktX1_save_1 := dk_seg dksX1_save_0 23 rfl rfl
theorem dksX1_save_2 : cX1_save.data.toList.drop 46 = dktX1_save_2 := dk_seg dksX1_save_1 23 rfl rfl
theorem dX1_save_0 : decode cX1_save 0 = .ok (.aload_n 0, 1) := dk_42 (dk_at dksX1_save_0 0 rfl rfl)
theorem dX1_save_1 : decode cX1_save 1 = .ok (.getfield 63, 3) := dk_180 0 63 (dk_at dksX1_save_0 1 rfl rfl)
theorem dX1_save_4 : decode cX1_save 4 = .ok (.invokevirtual 74, 3) := dk_182 0 74 (dk_at dksX1_save_0 4 rfl rfl)
theorem dX1_save_7 : decode cX1_save 7 = .ok (.bipush 6, 2) := dk_16 6 (dk_at dksX1_save_0 7 rfl rfl)
theorem dX1_save_9 : decode cX1_save 9 = .ok (.if_icmp .ne 17, 3) := dk_160 0 17 (dk_at dksX1_save_0 9 rfl rfl)
theorem dX1_save_12 : decode cX1_save 12 = .ok (.aload_n 0, 1) := dk_42 (dk_at dksX1_save_0 12 rfl rfl)
theorem dX1_save_13 : decode cX1_save 13 = .ok (.getfield 63, 3) := dk_180 0 63 (dk_at dksX1_save_0 13 rfl rfl)
theorem dX1_save_16 : decode cX1_save 16 = .ok (.iconst 0, 1) := dk_3 (dk_at dksX1_save_0 16 rfl rfl)
theorem dX1_save_17 : decode cX1_save 17 = .ok (.invokevirtual 78, 3) := dk_182 0 78 (dk_at dksX1_save_0 17 rfl rfl)
theorem dX1_save_20 : decode cX1_save 20 = .ok (.checkcast 13, 3) := dk_192 0 13 (dk_at dksX1_save_0 20 rfl rfl)
theorem dX1_save_23 : decode cX1_save 23 = .ok (.goto 10, 3) := dk_167 0 10 (dk_at dksX1_save_1 0 rfl rfl)
theorem dX1_save_26 : decode cX1_save 26 = .ok (.new 13, 3) := dk_187 0 13 (dk_at dksX1_save_1 3 rfl rfl)
theorem dX1_save_29 : decode cX1_save 29 = .ok (.dup, 1) := dk_89 (dk_at dksX1_save_1 6 rfl rfl)
theorem dX1_save_30 : decode cX1_save 30 = .ok (.invokespecial 15, 3) := dk_183 0 15 (dk_at dksX1_save_1 7 rfl rfl)
theorem dX1_save_33 : decode cX1_save 33 = .ok (.astore_n 1, 1) := dk_76 (dk_at dksX1_save_1 10 rfl rfl)
theorem dX1_save_34 : decode cX1_save 34 = .ok (.aload_n 0, 1) := dk_42 (dk_at dksX1_save_1 11 rfl rfl)
theorem dX1_save_35 : decode cX1_save 35 = .ok (.getfield 63, 3) := dk_180 0 63 (dk_at dksX1_save_1 12 rfl rfl)
theorem dX1_save_38 : decode cX1_save 38 = .ok (.aload_n 1, 1) := dk_43 (dk_at dksX1_save_1 15 rfl rfl)
theorem dX1_save_39 : decode cX1_save 39 = .ok (.aload_n 0, 1) := dk_42 (dk_at dksX1_save_1 16 rfl rfl)
theorem dX1_save_40 : decode cX1_save 40 = .ok (.getfield 16, 3) := dk_180 0 16 (dk_at dksX1_save_1 17 rfl rfl)
theorem dX1_save_43 : decode cX1_save 43 = .ok (.invokevirtual 82, 3) := dk_182 0 82 (dk_at dksX1_save_1 20 rfl rfl)
theorem dX1_save_46 : decode cX1_save 46 = .ok (.invokevirtual 86, 3) := dk_182 0 86 (dk_at dksX1_save_2 0 rfl rfl)
theorem dX1_save_49 : decode cX1_save 49 = .ok (.pop, 1) := dk_87 (dk_at dksX1_save_2 3 rfl rfl)
theorem dX1_save_50 : decode cX1_save 50 = .ok (.return_, 1) := dk_177 (dk_at dksX1_save_2 4 rfl rfl)
abbrev cX1_mirror : ByteArray := prog_1_method_26_code
def yX1_mirror : MethodName := ⟨RX1, "mirror", "()I"⟩
def dkwX1_mirror_0 : List UInt8 := [42, 182, 0, 127, 42, 180, 0, 16, 42, 180, 0, 57, 4, 182, 0, 195, 172]
abbrev dktX1_mirror_0 : List UInt8 := dkwX1_mirror_0 ++ []
theorem dksX1_mirror_0 : cX1_mirror.data.toList.drop 0 = dktX1_mirror_0 := by decide +kernel
theorem dX1_mirror_0 : decode cX1_mirror 0 = .ok (.aload_n 0, 1) := dk_42 (dk_at dksX1_mirror_0 0 rfl rfl)
theorem dX1_mirror_1 : decode cX1_mirror 1 = .ok (.invokevirtual 127, 3) := dk_182 0 127 (dk_at dksX1_mirror_0 1 rfl rfl)
theorem dX1_mirror_4 : decode cX1_mirror 4 = .ok (.aload_n 0, 1) := dk_42 (dk_at dksX1_mirror_0 4 rfl rfl)
theorem dX1_mirror_5 : decode cX1_mirror 5 = .ok (.getfield 16, 3) := dk_180 0 16 (dk_at dksX1_mirror_0 5 rfl rfl)
theorem dX1_mirror_8 : decode cX1_mirror 8 = .ok (.aload_n 0, 1) := dk_42 (dk_at dksX1_mirror_0 8 rfl rfl)
theorem dX1_mirror_9 : decode cX1_mirror 9 = .ok (.getfield 57, 3) := dk_180 0 57 (dk_at dksX1_mirror_0 9 rfl rfl)
theorem dX1_mirror_12 : decode cX1_mirror 12 = .ok (.iconst 1, 1) := dk_4 (dk_at dksX1_mirror_0 12 rfl rfl)
theorem dX1_mirror_13 : decode cX1_mirror 13 = .ok (.invokevirtual 195, 3) := dk_182 0 195 (dk_at dksX1_mirror_0 13 rfl rfl)
theorem dX1_mirror_16 : decode cX1_mirror 16 = .ok (.ireturn, 1) := dk_172 (dk_at dksX1_mirror_0 16 rfl rfl)
abbrev cX1_invert : ByteArray := prog_1_method_27_code
def yX1_invert : MethodName := ⟨RX1, "invert", "()I"⟩
def dkwX1_invert_0 : List UInt8 := [42, 182, 0, 127, 42, 180, 0, 16, 182, 0, 199, 172]
abbrev dktX1_invert_0 : List UInt8 := dkwX1_invert_0 ++ []
theorem dksX1_invert_0 : cX1_invert.data.toList.drop 0 = dktX1_invert_0 := by decide +kernel
theorem dX1_invert_0 : decode cX1_invert 0 = .ok (.aload_n 0, 1) := dk_42 (dk_at dksX1_invert_0 0 rfl rfl)
theorem dX1_invert_1 : decode cX1_invert 1 = .ok (.invokevirtual 127, 3) := dk_182 0 127 (dk_at dksX1_invert_0 1 rfl rfl)
theorem dX1_invert_4 : decode cX1_invert 4 = .ok (.aload_n 0, 1) := dk_42 (dk_at dksX1_invert_0 4 rfl rfl)
theorem dX1_invert_5 : decode cX1_invert 5 = .ok (.getfield 16, 3) := dk_180 0 16 (dk_at dksX1_invert_0 5 rfl rfl)
theorem dX1_invert_8 : decode cX1_invert 8 = .ok (.invokevirtual 199, 3) := dk_182 0 199 (dk_at dksX1_invert_0 8 rfl rfl)
theorem dX1_invert_11 : decode cX1_invert 11 = .ok (.ireturn, 1) := dk_172 (dk_at dksX1_invert_0 11 rfl rfl)
abbrev cX1_clearBuffer : ByteArray := prog_1_method_29_code
def yX1_clearBuffer : MethodName := ⟨RX1, "clearBuffer", "()I"⟩
def dkwX1_clearBuffer_0 : List UInt8 := [42, 180, 0, 70, 182, 0, 202, 60, 42, 180, 0, 70, 3, 182, 0, 209, 27, 172]
abbrev dktX1_clearBuffer_0 : List UInt8 := dkwX1_clearBuffer_0 ++ []
theorem dksX1_clearBuffer_0 : cX1_clearBuffer.data.toList.drop 0 = dktX1_clearBuffer_0 := by decide +kernel
theorem dX1_clearBuffer_0 : decode cX1_clearBuffer 0 = .ok (.aload_n 0, 1) := dk_42 (dk_at dksX1_clearBuffer_0 0 rfl rfl)
theorem dX1_clearBuffer_1 : decode cX1_clearBuffer 1 = .ok (.getfield 70, 3) := dk_180 0 70 (dk_at dksX1_clearBuffer_0 1 rfl rfl)
theorem dX1_clearBuffer_4 : decode cX1_clearBuffer 4 = .ok (.invokevirtual 202, 3) := dk_182 0 202 (dk_at dksX1_clearBuffer_0 4 rfl rfl)
theorem dX1_clearBuffer_7 : decode cX1_clearBuffer 7 = .ok (.istore_n 1, 1) := dk_60 (dk_at dksX1_clearBuffer_0 7 rfl rfl)
theorem dX1_clearBuffer_8 : decode cX1_clearBuffer 8 = .ok (.aload_n 0, 1) := dk_42 (dk_at dksX1_clearBuffer_0 8 rfl rfl)
theorem dX1_clearBuffer_9 : decode cX1_clearBuffer 9 = .ok (.getfield 70, 3) := dk_180 0 70 (dk_at dksX1_clearBuffer_0 9 rfl rfl)
theorem dX1_clearBuffer_12 : decode cX1_clearBuffer 12 = .ok (.iconst 0, 1) := dk_3 (dk_at dksX1_clearBuffer_0 12 rfl rfl)
theorem dX1_clearBuffer_13 : decode cX1_clearBuffer 13 = .ok (.invokevirtual 209, 3) := dk_182 0 209 (dk_at dksX1_clearBuffer_0 13 rfl rfl)
theorem dX1_clearBuffer_16 : decode cX1_clearBuffer 16 = .ok (.iload_n 1, 1) := dk_27 (dk_at dksX1_clearBuffer_0 16 rfl rfl)
theorem dX1_clearBuffer_17 : decode cX1_clearBuffer 17 = .ok (.ireturn, 1) := dk_172 (dk_at dksX1_clearBuffer_0 17 rfl rfl)
abbrev cX1_firstError : ByteArray := prog_1_method_30_code
def yX1_firstError : MethodName := ⟨RX1, "firstError", "()I"⟩
def dkwX1_firstError_1 : List UInt8 := [167, 0, 7, 43, 180, 0, 221, 172]
abbrev dktX1_firstError_1 : List UInt8 := dkwX1_firstError_1 ++ []
def dkwX1_firstError_0 : List UInt8 := [187, 0, 212, 89, 42, 183, 0, 214, 76, 43, 182, 0, 217, 153, 0, 13, 42, 180, 0, 70, 182, 0, 202]
abbrev dktX1_firstError_0 : List UInt8 := dkwX1_firstError_0 ++ dktX1_firstError_1
theorem dksX1_firstError_0 : cX1_firstError.data.toList.drop 0 = dktX1_firstError_0 := by decide +kernel
theorem dksX1_firstError_1 : cX1_firstError.data.toList.drop 23 = dktX1_firstError_1 := dk_seg dksX1_firstError_0 23 rfl rfl
theorem dX1_firstError_0 : decode cX1_firstError 0 = .ok (.new 212, 3) := dk_187 0 212 (dk_at dksX1_firstError_0 0 rfl rfl)
theorem dX1_firstError_3 : decode cX1_firstError 3 = .ok (.dup, 1) := dk_89 (dk_at dksX1_firstError_0 3 rfl rfl)
theorem dX1_firstError_4 : decode cX1_firstError 4 = .ok (.aload_n 0, 1) := dk_42 (dk_at dksX1_firstError_0 4 rfl rfl)
theorem dX1_firstError_5 : decode cX1_firstError 5 = .ok (.invokespecial 214, 3) := dk_183 0 214 (dk_at dksX1_firstError_0 5 rfl rfl)
theorem dX1_firstError_8 : decode cX1_firstError 8 = .ok (.astore_n 1, 1) := dk_76 (dk_at dksX1_firstError_0 8 rfl rfl)
theorem dX1_firstError_9 : decode cX1_firstError 9 = .ok (.aload_n 1, 1) := dk_43 (dk_at dksX1_firstError_0 9 rfl rfl)
theorem dX1_firstError_10 : decode cX1_firstError 10 = .ok (.invokevirtual 217, 3) := dk_182 0 217 (dk_at dksX1_firstError_0 10 rfl rfl)
theorem dX1_firstError_13 : decode cX1_firstError 13 = .ok (.ifCond .eq 13, 3) := dk_153 0 13 (dk_at dksX1_firstError_0 13 rfl rfl)
theorem dX1_firstError_16 : decode cX1_firstError 16 = .ok (.aload_n 0, 1) := dk_42 (dk_at dksX1_firstError_0 16 rfl rfl)
theorem dX1_firstError_17 : decode cX1_firstError 17 = .ok (.getfield 70, 3) := dk_180 0 70 (dk_at dksX1_firstError_0 17 rfl rfl)
theorem dX1_firstError_20 : decode cX1_firstError 20 = .ok (.invokevirtual 202, 3) := dk_182 0 202 (dk_at dksX1_firstError_0 20 rfl rfl)
theorem dX1_firstError_23 : decode cX1_firstError 23 = .ok (.goto 7, 3) := dk_167 0 7 (dk_at dksX1_firstError_1 0 rfl rfl)
theorem dX1_firstError_26 : decode cX1_firstError 26 = .ok (.aload_n 1, 1) := dk_43 (dk_at dksX1_firstError_1 3 rfl rfl)
theorem dX1_firstError_27 : decode cX1_firstError 27 = .ok (.getfield 221, 3) := dk_180 0 221 (dk_at dksX1_firstError_1 4 rfl rfl)
theorem dX1_firstError_30 : decode cX1_firstError 30 = .ok (.ireturn, 1) := dk_172 (dk_at dksX1_firstError_1 7 rfl rfl)
abbrev cX1_in : ByteArray := prog_1_method_1_code
def yX1_in : MethodName := ⟨RX1, "in", "(III)Z"⟩
def dkwX1_in_0 : List UInt8 := [26, 27, 161, 0, 12, 26, 28, 163, 0, 7, 4, 167, 0, 4, 3, 172]
abbrev dktX1_in_0 : List UInt8 := dkwX1_in_0 ++ []
theorem dksX1_in_0 : cX1_in.data.toList.drop 0 = dktX1_in_0 := by decide +kernel
theorem dX1_in_0 : decode cX1_in 0 = .ok (.iload_n 0, 1) := dk_26 (dk_at dksX1_in_0 0 rfl rfl)
theorem dX1_in_1 : decode cX1_in 1 = .ok (.iload_n 1, 1) := dk_27 (dk_at dksX1_in_0 1 rfl rfl)
theorem dX1_in_2 : decode cX1_in 2 = .ok (.if_icmp .lt 12, 3) := dk_161 0 12 (dk_at dksX1_in_0 2 rfl rfl)
theorem dX1_in_5 : decode cX1_in 5 = .ok (.iload_n 0, 1) := dk_26 (dk_at dksX1_in_0 5 rfl rfl)
theorem dX1_in_6 : decode cX1_in 6 = .ok (.iload_n 2, 1) := dk_28 (dk_at dksX1_in_0 6 rfl rfl)
theorem dX1_in_7 : decode cX1_in 7 = .ok (.if_icmp .gt 7, 3) := dk_163 0 7 (dk_at dksX1_in_0 7 rfl rfl)
theorem dX1_in_10 : decode cX1_in 10 = .ok (.iconst 1, 1) := dk_4 (dk_at dksX1_in_0 10 rfl rfl)
theorem dX1_in_11 : decode cX1_in 11 = .ok (.goto 4, 3) := dk_167 0 4 (dk_at dksX1_in_0 11 rfl rfl)
theorem dX1_in_14 : decode cX1_in 14 = .ok (.iconst 0, 1) := dk_3 (dk_at dksX1_in_0 14 rfl rfl)
theorem dX1_in_15 : decode cX1_in 15 = .ok (.ireturn, 1) := dk_172 (dk_at dksX1_in_0 15 rfl rfl)
abbrev cX1_hasStopped : ByteArray := prog_1_method_34_code
def yX1_hasStopped : MethodName := ⟨RX1, "hasStopped", "()Z"⟩
def dkwX1_hasStopped_0 : List UInt8 := [42, 180, 0, 16, 180, 0, 238, 2, 159, 0, 7, 4, 167, 0, 4, 3, 172]
abbrev dktX1_hasStopped_0 : List UInt8 := dkwX1_hasStopped_0 ++ []
theorem dksX1_hasStopped_0 : cX1_hasStopped.data.toList.drop 0 = dktX1_hasStopped_0 := by decide +kernel
theorem dX1_hasStopped_0 : decode cX1_hasStopped 0 = .ok (.aload_n 0, 1) := dk_42 (dk_at dksX1_hasStopped_0 0 rfl rfl)
theorem dX1_hasStopped_1 : decode cX1_hasStopped 1 = .ok (.getfield 16, 3) := dk_180 0 16 (dk_at dksX1_hasStopped_0 1 rfl rfl)
theorem dX1_hasStopped_4 : decode cX1_hasStopped 4 = .ok (.getfield 238, 3) := dk_180 0 238 (dk_at dksX1_hasStopped_0 4 rfl rfl)
theorem dX1_hasStopped_7 : decode cX1_hasStopped 7 = .ok (.iconst (-1), 1) := dk_2 (dk_at dksX1_hasStopped_0 7 rfl rfl)
theorem dX1_hasStopped_8 : decode cX1_hasStopped 8 = .ok (.if_icmp .eq 7, 3) := dk_159 0 7 (dk_at dksX1_hasStopped_0 8 rfl rfl)
theorem dX1_hasStopped_11 : decode cX1_hasStopped 11 = .ok (.iconst 1, 1) := dk_4 (dk_at dksX1_hasStopped_0 11 rfl rfl)
theorem dX1_hasStopped_12 : decode cX1_hasStopped 12 = .ok (.goto 4, 3) := dk_167 0 4 (dk_at dksX1_hasStopped_0 12 rfl rfl)
theorem dX1_hasStopped_15 : decode cX1_hasStopped 15 = .ok (.iconst 0, 1) := dk_3 (dk_at dksX1_hasStopped_0 15 rfl rfl)
theorem dX1_hasStopped_16 : decode cX1_hasStopped 16 = .ok (.ireturn, 1) := dk_172 (dk_at dksX1_hasStopped_0 16 rfl rfl)
abbrev cX1_keep : ByteArray := prog_1_method_38_code
def yX1_keep : MethodName := ⟨RX1, "keep", "()I"⟩
def dkwX1_keep_1 : List UInt8 := [180, 0, 16, 182, 0, 82, 182, 0, 250, 172]
abbrev dktX1_keep_1 : List UInt8 := dkwX1_keep_1 ++ []
def dkwX1_keep_0 : List UInt8 := [42, 180, 0, 247, 199, 0, 14, 42, 187, 0, 13, 89, 183, 0, 15, 181, 0, 247, 42, 180, 0, 247, 42]
abbrev dktX1_keep_0 : List UInt8 := dkwX1_keep_0 ++ dktX1_keep_1
theorem dksX1_keep_0 : cX1_keep.data.toList.drop 0 = dktX1_keep_0 := by decide +kernel
theorem dksX1_keep_1 : cX1_keep.data.toList.drop 23 = dktX1_keep_1 := dk_seg dksX1_keep_0 23 rfl rfl
theorem dX1_keep_0 : decode cX1_keep 0 = .ok (.aload_n 0, 1) := dk_42 (dk_at dksX1_keep_0 0 rfl rfl)
theorem dX1_keep_1 : decode cX1_keep 1 = .ok (.getfield 247, 3) := dk_180 0 247 (dk_at dksX1_keep_0 1 rfl rfl)
theorem dX1_keep_4 : decode cX1_keep 4 = .ok (.ifnonnull 14, 3) := dk_199 0 14 (dk_at dksX1_keep_0 4 rfl rfl)
theorem dX1_keep_7 : decode cX1_keep 7 = .ok (.aload_n 0, 1) := dk_42 (dk_at dksX1_keep_0 7 rfl rfl)
theorem dX1_keep_8 : decode cX1_keep 8 = .ok (.new 13, 3) := dk_187 0 13 (dk_at dksX1_keep_0 8 rfl rfl)
theorem dX1_keep_11 : decode cX1_keep 11 = .ok (.dup, 1) := dk_89 (dk_at dksX1_keep_0 11 rfl rfl)
theorem dX1_keep_12 : decode cX1_keep 12 = .ok (.invokespecial 15, 3) := dk_183 0 15 (dk_at dksX1_keep_0 12 rfl rfl)
theorem dX1_keep_15 : decode cX1_keep 15 = .ok (.putfield 247, 3) := dk_181 0 247 (dk_at dksX1_keep_0 15 rfl rfl)
theorem dX1_keep_18 : decode cX1_keep 18 = .ok (.aload_n 0, 1) := dk_42 (dk_at dksX1_keep_0 18 rfl rfl)
theorem dX1_keep_19 : decode cX1_keep 19 = .ok (.getfield 247, 3) := dk_180 0 247 (dk_at dksX1_keep_0 19 rfl rfl)
theorem dX1_keep_22 : decode cX1_keep 22 = .ok (.aload_n 0, 1) := dk_42 (dk_at dksX1_keep_0 22 rfl rfl)
theorem dX1_keep_23 : decode cX1_keep 23 = .ok (.getfield 16, 3) := dk_180 0 16 (dk_at dksX1_keep_1 0 rfl rfl)
theorem dX1_keep_26 : decode cX1_keep 26 = .ok (.invokevirtual 82, 3) := dk_182 0 82 (dk_at dksX1_keep_1 3 rfl rfl)
theorem dX1_keep_29 : decode cX1_keep 29 = .ok (.invokevirtual 250, 3) := dk_182 0 250 (dk_at dksX1_keep_1 6 rfl rfl)
theorem dX1_keep_32 : decode cX1_keep 32 = .ok (.ireturn, 1) := dk_172 (dk_at dksX1_keep_1 9 rfl rfl)
abbrev cX1_savedStates : ByteArray := prog_1_method_40_code
def yX1_savedStates : MethodName := ⟨RX1, "savedStates", "()I"⟩
def dkwX1_savedStates_0 : List UInt8 := [42, 180, 0, 63, 182, 0, 74, 172]
abbrev dktX1_savedStates_0 : List UInt8 := dkwX1_savedStates_0 ++ []
theorem dksX1_savedStates_0 : cX1_savedStates.data.toList.drop 0 = dktX1_savedStates_0 := by decide +kernel
theorem dX1_savedStates_0 : decode cX1_savedStates 0 = .ok (.aload_n 0, 1) := dk_42 (dk_at dksX1_savedStates_0 0 rfl rfl)
theorem dX1_savedStates_1 : decode cX1_savedStates 1 = .ok (.getfield 63, 3) := dk_180 0 63 (dk_at dksX1_savedStates_0 1 rfl rfl)
theorem dX1_savedStates_4 : decode cX1_savedStates 4 = .ok (.invokevirtual 74, 3) := dk_182 0 74 (dk_at dksX1_savedStates_0 4 rfl rfl)
theorem dX1_savedStates_7 : decode cX1_savedStates 7 = .ok (.ireturn, 1) := dk_172 (dk_at dksX1_savedStates_0 7 rfl rfl)
abbrev cX1_levels : ByteArray := prog_1_method_42_code
def yX1_levels : MethodName := ⟨RX1, "levels", "()I"⟩
def dkwX1_levels_0 : List UInt8 := [42, 180, 0, 16, 180, 0, 110, 172]
abbrev dktX1_levels_0 : List UInt8 := dkwX1_levels_0 ++ []
theorem dksX1_levels_0 : cX1_levels.data.toList.drop 0 = dktX1_levels_0 := by decide +kernel
theorem dX1_levels_0 : decode cX1_levels 0 = .ok (.aload_n 0, 1) := dk_42 (dk_at dksX1_levels_0 0 rfl rfl)
theorem dX1_levels_1 : decode cX1_levels 1 = .ok (.getfield 16, 3) := dk_180 0 16 (dk_at dksX1_levels_0 1 rfl rfl)
theorem dX1_levels_4 : decode cX1_levels 4 = .ok (.getfield 110, 3) := dk_180 0 110 (dk_at dksX1_levels_0 4 rfl rfl)
theorem dX1_levels_7 : decode cX1_levels 7 = .ok (.ireturn, 1) := dk_172 (dk_at dksX1_levels_0 7 rfl rfl)
abbrev cX1_allShades : ByteArray := prog_1_method_43_code
def yX1_allShades : MethodName := ⟨RX1, "allShades", "()I"⟩
def dkwX1_allShades_0 : List UInt8 := [42, 180, 0, 16, 182, 0, 250, 172]
abbrev dktX1_allShades_0 : List UInt8 := dkwX1_allShades_0 ++ []
theorem dksX1_allShades_0 : cX1_allShades.data.toList.drop 0 = dktX1_allShades_0 := by decide +kernel
theorem dX1_allShades_0 : decode cX1_allShades 0 = .ok (.aload_n 0, 1) := dk_42 (dk_at dksX1_allShades_0 0 rfl rfl)
theorem dX1_allShades_1 : decode cX1_allShades 1 = .ok (.getfield 16, 3) := dk_180 0 16 (dk_at dksX1_allShades_0 1 rfl rfl)
theorem dX1_allShades_4 : decode cX1_allShades 4 = .ok (.invokevirtual 250, 3) := dk_182 0 250 (dk_at dksX1_allShades_0 4 rfl rfl)
theorem dX1_allShades_7 : decode cX1_allShades 7 = .ok (.ireturn, 1) := dk_172 (dk_at dksX1_allShades_0 7 rfl rfl)
abbrev cX1_codeLength : ByteArray := prog_1_method_67_code
def yX1_codeLength : MethodName := ⟨RX1, "codeLength", "()I"⟩
def dkwX1_codeLength_0 : List UInt8 := [42, 182, 1, 45, 180, 1, 49, 172]
abbrev dktX1_codeLength_0 : List UInt8 := dkwX1_codeLength_0 ++ []
theorem dksX1_codeLength_0 : cX1_codeLength.data.toList.drop 0 = dktX1_codeLength_0 := by decide +kernel
theorem dX1_codeLength_0 : decode cX1_codeLength 0 = .ok (.aload_n 0, 1) := dk_42 (dk_at dksX1_codeLength_0 0 rfl rfl)
theorem dX1_codeLength_1 : decode cX1_codeLength 1 = .ok (.invokevirtual 301, 3) := dk_182 1 45 (dk_at dksX1_codeLength_0 1 rfl rfl)
theorem dX1_codeLength_4 : decode cX1_codeLength 4 = .ok (.getfield 305, 3) := dk_180 1 49 (dk_at dksX1_codeLength_0 4 rfl rfl)
theorem dX1_codeLength_7 : decode cX1_codeLength 7 = .ok (.ireturn, 1) := dk_172 (dk_at dksX1_codeLength_0 7 rfl rfl)
abbrev cX1_coded : ByteArray := prog_1_method_66_code
def yX1_coded : MethodName := ⟨RX1, "coded", "()LCrumbPictures$Code;"⟩
def dkwX1_coded_0 : List UInt8 := [42, 180, 0, 46, 42, 182, 0, 140, 42, 182, 0, 161, 182, 1, 41, 176]
abbrev dktX1_coded_0 : List UInt8 := dkwX1_coded_0 ++ []
theorem dksX1_coded_0 : cX1_coded.data.toList.drop 0 = dktX1_coded_0 := by decide +kernel
theorem dX1_coded_0 : decode cX1_coded 0 = .ok (.aload_n 0, 1) := dk_42 (dk_at dksX1_coded_0 0 rfl rfl)
theorem dX1_coded_1 : decode cX1_coded 1 = .ok (.getfield 46, 3) := dk_180 0 46 (dk_at dksX1_coded_0 1 rfl rfl)
theorem dX1_coded_4 : decode cX1_coded 4 = .ok (.aload_n 0, 1) := dk_42 (dk_at dksX1_coded_0 4 rfl rfl)
theorem dX1_coded_5 : decode cX1_coded 5 = .ok (.invokevirtual 140, 3) := dk_182 0 140 (dk_at dksX1_coded_0 5 rfl rfl)
theorem dX1_coded_8 : decode cX1_coded 8 = .ok (.aload_n 0, 1) := dk_42 (dk_at dksX1_coded_0 8 rfl rfl)
theorem dX1_coded_9 : decode cX1_coded 9 = .ok (.invokevirtual 161, 3) := dk_182 0 161 (dk_at dksX1_coded_0 9 rfl rfl)
theorem dX1_coded_12 : decode cX1_coded 12 = .ok (.invokevirtual 297, 3) := dk_182 1 41 (dk_at dksX1_coded_0 12 rfl rfl)
theorem dX1_coded_15 : decode cX1_coded 15 = .ok (.areturn, 1) := dk_176 (dk_at dksX1_coded_0 15 rfl rfl)
abbrev cX1_parted : ByteArray := prog_1_method_15_code
def yX1_parted : MethodName := ⟨RX1, "parted", "()[I"⟩
def dkwX1_parted_1 : List UInt8 := [182, 0, 117, 176]
abbrev dktX1_parted_1 : List UInt8 := dkwX1_parted_1 ++ []
def dkwX1_parted_0 : List UInt8 := [42, 180, 0, 32, 42, 180, 0, 16, 180, 0, 114, 42, 180, 0, 50, 42, 180, 0, 16, 180, 0, 110]
abbrev dktX1_parted_0 : List UInt8 := dkwX1_parted_0 ++ dktX1_parted_1
theorem dksX1_parted_0 : cX1_parted.data.toList.drop 0 = dktX1_parted_0 := by decide +kernel
theorem dksX1_parted_1 : cX1_parted.data.toList.drop 22 = dktX1_parted_1 := dk_seg dksX1_parted_0 22 rfl rfl
theorem dX1_parted_0 : decode cX1_parted 0 = .ok (.aload_n 0, 1) := dk_42 (dk_at dksX1_parted_0 0 rfl rfl)
theorem dX1_parted_1 : decode cX1_parted 1 = .ok (.getfield 32, 3) := dk_180 0 32 (dk_at dksX1_parted_0 1 rfl rfl)
theorem dX1_parted_4 : decode cX1_parted 4 = .ok (.aload_n 0, 1) := dk_42 (dk_at dksX1_parted_0 4 rfl rfl)
theorem dX1_parted_5 : decode cX1_parted 5 = .ok (.getfield 16, 3) := dk_180 0 16 (dk_at dksX1_parted_0 5 rfl rfl)
theorem dX1_parted_8 : decode cX1_parted 8 = .ok (.getfield 114, 3) := dk_180 0 114 (dk_at dksX1_parted_0 8 rfl rfl)
theorem dX1_parted_11 : decode cX1_parted 11 = .ok (.aload_n 0, 1) := dk_42 (dk_at dksX1_parted_0 11 rfl rfl)
theorem dX1_parted_12 : decode cX1_parted 12 = .ok (.getfield 50, 3) := dk_180 0 50 (dk_at dksX1_parted_0 12 rfl rfl)
theorem dX1_parted_15 : decode cX1_parted 15 = .ok (.aload_n 0, 1) := dk_42 (dk_at dksX1_parted_0 15 rfl rfl)
theorem dX1_parted_16 : decode cX1_parted 16 = .ok (.getfield 16, 3) := dk_180 0 16 (dk_at dksX1_parted_0 16 rfl rfl)
theorem dX1_parted_19 : decode cX1_parted 19 = .ok (.getfield 110, 3) := dk_180 0 110 (dk_at dksX1_parted_0 19 rfl rfl)
theorem dX1_parted_22 : decode cX1_parted 22 = .ok (.invokevirtual 117, 3) := dk_182 0 117 (dk_at dksX1_parted_1 0 rfl rfl)
theorem dX1_parted_25 : decode cX1_parted 25 = .ok (.areturn, 1) := dk_176 (dk_at dksX1_parted_1 3 rfl rfl)
abbrev cX1_sumOf : ByteArray := prog_1_method_2_code
def yX1_sumOf : MethodName := ⟨RX1, "sumOf", "(II)I"⟩
def dkwX1_sumOf_0 : List UInt8 := [26, 27, 96, 4, 122, 172]
abbrev dktX1_sumOf_0 : List UInt8 := dkwX1_sumOf_0 ++ []
theorem dksX1_sumOf_0 : cX1_sumOf.data.toList.drop 0 = dktX1_sumOf_0 := by decide +kernel
theorem dX1_sumOf_0 : decode cX1_sumOf 0 = .ok (.iload_n 0, 1) := dk_26 (dk_at dksX1_sumOf_0 0 rfl rfl)
theorem dX1_sumOf_1 : decode cX1_sumOf 1 = .ok (.iload_n 1, 1) := dk_27 (dk_at dksX1_sumOf_0 1 rfl rfl)
theorem dX1_sumOf_2 : decode cX1_sumOf 2 = .ok (.iadd, 1) := dk_96 (dk_at dksX1_sumOf_0 2 rfl rfl)
theorem dX1_sumOf_3 : decode cX1_sumOf 3 = .ok (.iconst 1, 1) := dk_4 (dk_at dksX1_sumOf_0 3 rfl rfl)
theorem dX1_sumOf_4 : decode cX1_sumOf 4 = .ok (.ishr, 1) := dk_122 (dk_at dksX1_sumOf_0 4 rfl rfl)
theorem dX1_sumOf_5 : decode cX1_sumOf 5 = .ok (.ireturn, 1) := dk_172 (dk_at dksX1_sumOf_0 5 rfl rfl)
abbrev cX1_order : ByteArray := prog_1_method_14_code
def yX1_order : MethodName := ⟨RX1, "order", "()LCrumbPictures$Order;"⟩
def dkwX1_order_0 : List UInt8 := [42, 180, 0, 25, 42, 180, 0, 16, 180, 0, 110, 4, 100, 50, 176]
abbrev dktX1_order_0 : List UInt8 := dkwX1_order_0 ++ []
theorem dksX1_order_0 : cX1_order.data.toList.drop 0 = dktX1_order_0 := by decide +kernel
theorem dX1_order_0 : decode cX1_order 0 = .ok (.aload_n 0, 1) := dk_42 (dk_at dksX1_order_0 0 rfl rfl)
theorem dX1_order_1 : decode cX1_order 1 = .ok (.getfield 25, 3) := dk_180 0 25 (dk_at dksX1_order_0 1 rfl rfl)
theorem dX1_order_4 : decode cX1_order 4 = .ok (.aload_n 0, 1) := dk_42 (dk_at dksX1_order_0 4 rfl rfl)
theorem dX1_order_5 : decode cX1_order 5 = .ok (.getfield 16, 3) := dk_180 0 16 (dk_at dksX1_order_0 5 rfl rfl)
theorem dX1_order_8 : decode cX1_order 8 = .ok (.getfield 110, 3) := dk_180 0 110 (dk_at dksX1_order_0 8 rfl rfl)
theorem dX1_order_11 : decode cX1_order 11 = .ok (.iconst 1, 1) := dk_4 (dk_at dksX1_order_0 11 rfl rfl)
theorem dX1_order_12 : decode cX1_order 12 = .ok (.isub, 1) := dk_100 (dk_at dksX1_order_0 12 rfl rfl)
theorem dX1_order_13 : decode cX1_order 13 = .ok (.aaload, 1) := dk_50 (dk_at dksX1_order_0 13 rfl rfl)
theorem dX1_order_14 : decode cX1_order 14 = .ok (.areturn, 1) := dk_176 (dk_at dksX1_order_0 14 rfl rfl)
abbrev cX1_zeroRuns : ByteArray := prog_1_method_71_code
def yX1_zeroRuns : MethodName := ⟨RX1, "zeroRuns", "()I"⟩
theorem dX1_zeroRuns_0 : decode cX1_zeroRuns 0 = .ok (.aload_n 0, 1) := by decide +kernel
theorem dX1_zeroRuns_1 : decode cX1_zeroRuns 1 = .ok (.invokevirtual 324, 3) := by decide +kernel
theorem dX1_zeroRuns_4 : decode cX1_zeroRuns 4 = .ok (.ireturn, 1) := by decide +kernel
abbrev cX1_runsTold : ByteArray := prog_1_method_70_code
def yX1_runsTold : MethodName := ⟨RX1, "runsTold", "()I"⟩
def dkwX1_runsTold_2 : List UInt8 := [167, 255, 217, 27, 172]
abbrev dktX1_runsTold_2 : List UInt8 := dkwX1_runsTold_2 ++ []
def dkwX1_runsTold_1 : List UInt8 := [184, 1, 64, 62, 27, 29, 158, 0, 7, 4, 167, 0, 4, 3, 96, 60, 28, 4, 29, 184, 0, 180, 96, 61]
abbrev dktX1_runsTold_1 : List UInt8 := dkwX1_runsTold_1 ++ dktX1_runsTold_2
def dkwX1_runsTold_0 : List UInt8 := [42, 182, 0, 140, 87, 3, 60, 3, 61, 28, 16, 64, 162, 0, 39, 42, 180, 0, 50, 42, 182, 0, 161, 28]
abbrev dktX1_runsTold_0 : List UInt8 := dkwX1_runsTold_0 ++ dktX1_runsTold_1
theorem dksX1_runsTold_0 : cX1_runsTold.data.toList.drop 0 = dktX1_runsTold_0 := by decide +kernel
theorem dksX1_runsTold_1 : cX1_runsTold.data.toList.drop 24 = dktX1_runsTold_1 := dk_seg dksX1_runsTold_0 24 rfl rfl
theorem dksX1_runsTold_2 : cX1_runsTold.data.toList.drop 48 = dktX1_runsTold_2 := dk_seg dksX1_runsTold_1 24 rfl rfl
theorem dX1_runsTold_0 : decode cX1_runsTold 0 = .ok (.aload_n 0, 1) := dk_42 (dk_at dksX1_runsTold_0 0 rfl rfl)
theorem dX1_runsTold_1 : decode cX1_runsTold 1 = .ok (.invokevirtual 140, 3) := dk_182 0 140 (dk_at dksX1_runsTold_0 1 rfl rfl)
theorem dX1_runsTold_4 : decode cX1_runsTold 4 = .ok (.pop, 1) := dk_87 (dk_at dksX1_runsTold_0 4 rfl rfl)
theorem dX1_runsTold_5 : decode cX1_runsTold 5 = .ok (.iconst 0, 1) := dk_3 (dk_at dksX1_runsTold_0 5 rfl rfl)
theorem dX1_runsTold_6 : decode cX1_runsTold 6 = .ok (.istore_n 1, 1) := dk_60 (dk_at dksX1_runsTold_0 6 rfl rfl)
theorem dX1_runsTold_7 : decode cX1_runsTold 7 = .ok (.iconst 0, 1) := dk_3 (dk_at dksX1_runsTold_0 7 rfl rfl)
theorem dX1_runsTold_8 : decode cX1_runsTold 8 = .ok (.istore_n 2, 1) := dk_61 (dk_at dksX1_runsTold_0 8 rfl rfl)
theorem dX1_runsTold_9 : decode cX1_runsTold 9 = .ok (.iload_n 2, 1) := dk_28 (dk_at dksX1_runsTold_0 9 rfl rfl)
theorem dX1_runsTold_10 : decode cX1_runsTold 10 = .ok (.bipush 64, 2) := dk_16 64 (dk_at dksX1_runsTold_0 10 rfl rfl)
theorem dX1_runsTold_12 : decode cX1_runsTold 12 = .ok (.if_icmp .ge 39, 3) := dk_162 0 39 (dk_at dksX1_runsTold_0 12 rfl rfl)
theorem dX1_runsTold_15 : decode cX1_runsTold 15 = .ok (.aload_n 0, 1) := dk_42 (dk_at dksX1_runsTold_0 15 rfl rfl)
theorem dX1_runsTold_16 : decode cX1_runsTold 16 = .ok (.getfield 50, 3) := dk_180 0 50 (dk_at dksX1_runsTold_0 16 rfl rfl)
theorem dX1_runsTold_19 : decode cX1_runsTold 19 = .ok (.aload_n 0, 1) := dk_42 (dk_at dksX1_runsTold_0 19 rfl rfl)
theorem dX1_runsTold_20 : decode cX1_runsTold 20 = .ok (.invokevirtual 161, 3) := dk_182 0 161 (dk_at dksX1_runsTold_0 20 rfl rfl)
theorem dX1_runsTold_23 : decode cX1_runsTold 23 = .ok (.iload_n 2, 1) := dk_28 (dk_at dksX1_runsTold_0 23 rfl rfl)
theorem dX1_runsTold_24 : decode cX1_runsTold 24 = .ok (.invokestatic 320, 3) := dk_184 1 64 (dk_at dksX1_runsTold_1 0 rfl rfl)
theorem dX1_runsTold_27 : decode cX1_runsTold 27 = .ok (.istore_n 3, 1) := dk_62 (dk_at dksX1_runsTold_1 3 rfl rfl)
theorem dX1_runsTold_28 : decode cX1_runsTold 28 = .ok (.iload_n 1, 1) := dk_27 (dk_at dksX1_runsTold_1 4 rfl rfl)
theorem dX1_runsTold_29 : decode cX1_runsTold 29 = .ok (.iload_n 3, 1) := dk_29 (dk_at dksX1_runsTold_1 5 rfl rfl)
theorem dX1_runsTold_30 : decode cX1_runsTold 30 = .ok (.ifCond .le 7, 3) := dk_158 0 7 (dk_at dksX1_runsTold_1 6 rfl rfl)
theorem dX1_runsTold_33 : decode cX1_runsTold 33 = .ok (.iconst 1, 1) := dk_4 (dk_at dksX1_runsTold_1 9 rfl rfl)
theorem dX1_runsTold_34 : decode cX1_runsTold 34 = .ok (.goto 4, 3) := dk_167 0 4 (dk_at dksX1_runsTold_1 10 rfl rfl)
theorem dX1_runsTold_37 : decode cX1_runsTold 37 = .ok (.iconst 0, 1) := dk_3 (dk_at dksX1_runsTold_1 13 rfl rfl)
theorem dX1_runsTold_38 : decode cX1_runsTold 38 = .ok (.iadd, 1) := dk_96 (dk_at dksX1_runsTold_1 14 rfl rfl)
theorem dX1_runsTold_39 : decode cX1_runsTold 39 = .ok (.istore_n 1, 1) := dk_60 (dk_at dksX1_runsTold_1 15 rfl rfl)
theorem dX1_runsTold_40 : decode cX1_runsTold 40 = .ok (.iload_n 2, 1) := dk_28 (dk_at dksX1_runsTold_1 16 rfl rfl)
theorem dX1_runsTold_41 : decode cX1_runsTold 41 = .ok (.iconst 1, 1) := dk_4 (dk_at dksX1_runsTold_1 17 rfl rfl)
theorem dX1_runsTold_42 : decode cX1_runsTold 42 = .ok (.iload_n 3, 1) := dk_29 (dk_at dksX1_runsTold_1 18 rfl rfl)
theorem dX1_runsTold_43 : decode cX1_runsTold 43 = .ok (.invokestatic 180, 3) := dk_184 0 180 (dk_at dksX1_runsTold_1 19 rfl rfl)
theorem dX1_runsTold_46 : decode cX1_runsTold 46 = .ok (.iadd, 1) := dk_96 (dk_at dksX1_runsTold_1 22 rfl rfl)
theorem dX1_runsTold_47 : decode cX1_runsTold 47 = .ok (.istore_n 2, 1) := dk_61 (dk_at dksX1_runsTold_1 23 rfl rfl)
theorem dX1_runsTold_48 : decode cX1_runsTold 48 = .ok (.goto (-39), 3) := dk_167 255 217 (dk_at dksX1_runsTold_2 0 rfl rfl)
theorem dX1_runsTold_51 : decode cX1_runsTold 51 = .ok (.iload_n 1, 1) := dk_27 (dk_at dksX1_runsTold_2 3 rfl rfl)
theorem dX1_runsTold_52 : decode cX1_runsTold 52 = .ok (.ireturn, 1) := dk_172 (dk_at dksX1_runsTold_2 4 rfl rfl)
abbrev cX1_zeroShare : ByteArray := prog_1_method_78_code
def yX1_zeroShare : MethodName := ⟨RX1, "zeroShare", "()D"⟩
theorem dX1_zeroShare_0 : decode cX1_zeroShare 0 = .ok (.aload_n 0, 1) := by decide +kernel
theorem dX1_zeroShare_1 : decode cX1_zeroShare 1 = .ok (.invokevirtual 335, 3) := by decide +kernel
theorem dX1_zeroShare_4 : decode cX1_zeroShare 4 = .ok (.dreturn, 1) := by decide +kernel
abbrev cX1_shareTold : ByteArray := prog_1_method_77_code
def yX1_shareTold : MethodName := ⟨RX1, "shareTold", "()D"⟩
def dkwX1_shareTold_2 : List UInt8 := [167, 255, 228, 27, 135, 20, 1, 77, 111, 175]
abbrev dktX1_shareTold_2 : List UInt8 := dkwX1_shareTold_2 ++ []
def dkwX1_shareTold_1 : List UInt8 := [44, 21, 4, 46, 54, 5, 27, 21, 5, 154, 0, 7, 4, 167, 0, 4, 3, 96, 60, 132, 4, 1]
abbrev dktX1_shareTold_1 : List UInt8 := dkwX1_shareTold_1 ++ dktX1_shareTold_2
def dkwX1_shareTold_0 : List UInt8 := [42, 182, 0, 140, 87, 3, 60, 42, 180, 0, 50, 77, 44, 190, 62, 3, 54, 4, 21, 4, 29, 162, 0, 28]
abbrev dktX1_shareTold_0 : List UInt8 := dkwX1_shareTold_0 ++ dktX1_shareTold_1
theorem dksX1_shareTold_0 : cX1_shareTold.data.toList.drop 0 = dktX1_shareTold_0 := by decide +kernel
theorem dksX1_shareTold_1 : cX1_shareTold.data.toList.drop 24 = dktX1_shareTold_1 := dk_seg dksX1_shareTold_0 24 rfl rfl
theorem dksX1_shareTold_2 : cX1_shareTold.data.toList.drop 46 = dktX1_shareTold_2 := dk_seg dksX1_shareTold_1 22 rfl rfl
theorem dX1_shareTold_0 : decode cX1_shareTold 0 = .ok (.aload_n 0, 1) := dk_42 (dk_at dksX1_shareTold_0 0 rfl rfl)
theorem dX1_shareTold_1 : decode cX1_shareTold 1 = .ok (.invokevirtual 140, 3) := dk_182 0 140 (dk_at dksX1_shareTold_0 1 rfl rfl)
theorem dX1_shareTold_4 : decode cX1_shareTold 4 = .ok (.pop, 1) := dk_87 (dk_at dksX1_shareTold_0 4 rfl rfl)
theorem dX1_shareTold_5 : decode cX1_shareTold 5 = .ok (.iconst 0, 1) := dk_3 (dk_at dksX1_shareTold_0 5 rfl rfl)
theorem dX1_shareTold_6 : decode cX1_shareTold 6 = .ok (.istore_n 1, 1) := dk_60 (dk_at dksX1_shareTold_0 6 rfl rfl)
theorem dX1_shareTold_7 : decode cX1_shareTold 7 = .ok (.aload_n 0, 1) := dk_42 (dk_at dksX1_shareTold_0 7 rfl rfl)
theorem dX1_shareTold_8 : decode cX1_shareTold 8 = .ok (.getfield 50, 3) := dk_180 0 50 (dk_at dksX1_shareTold_0 8 rfl rfl)
theorem dX1_shareTold_11 : decode cX1_shareTold 11 = .ok (.astore_n 2, 1) := dk_77 (dk_at dksX1_shareTold_0 11 rfl rfl)
theorem dX1_shareTold_12 : decode cX1_shareTold 12 = .ok (.aload_n 2, 1) := dk_44 (dk_at dksX1_shareTold_0 12 rfl rfl)
theorem dX1_shareTold_13 : decode cX1_shareTold 13 = .ok (.arraylength, 1) := dk_190 (dk_at dksX1_shareTold_0 13 rfl rfl)
theorem dX1_shareTold_14 : decode cX1_shareTold 14 = .ok (.istore_n 3, 1) := dk_62 (dk_at dksX1_shareTold_0 14 rfl rfl)
theorem dX1_shareTold_15 : decode cX1_shareTold 15 = .ok (.iconst 0, 1) := dk_3 (dk_at dksX1_shareTold_0 15 rfl rfl)
theorem dX1_shareTold_16 : decode cX1_shareTold 16 = .ok (.istore 4, 2) := dk_54 4 (dk_at dksX1_shareTold_0 16 rfl rfl)
theorem dX1_shareTold_18 : decode cX1_shareTold 18 = .ok (.iload 4, 2) := dk_21 4 (dk_at dksX1_shareTold_0 18 rfl rfl)
theorem dX1_shareTold_20 : decode cX1_shareTold 20 = .ok (.iload_n 3, 1) := dk_29 (dk_at dksX1_shareTold_0 20 rfl rfl)
theorem dX1_shareTold_21 : decode cX1_shareTold 21 = .ok (.if_icmp .ge 28, 3) := dk_162 0 28 (dk_at dksX1_shareTold_0 21 rfl rfl)
theorem dX1_shareTold_24 : decode cX1_shareTold 24 = .ok (.aload_n 2, 1) := dk_44 (dk_at dksX1_shareTold_1 0 rfl rfl)
theorem dX1_shareTold_25 : decode cX1_shareTold 25 = .ok (.iload 4, 2) := dk_21 4 (dk_at dksX1_shareTold_1 1 rfl rfl)
theorem dX1_shareTold_27 : decode cX1_shareTold 27 = .ok (.iaload, 1) := dk_46 (dk_at dksX1_shareTold_1 3 rfl rfl)
theorem dX1_shareTold_28 : decode cX1_shareTold 28 = .ok (.istore 5, 2) := dk_54 5 (dk_at dksX1_shareTold_1 4 rfl rfl)
theorem dX1_shareTold_30 : decode cX1_shareTold 30 = .ok (.iload_n 1, 1) := dk_27 (dk_at dksX1_shareTold_1 6 rfl rfl)
theorem dX1_shareTold_31 : decode cX1_shareTold 31 = .ok (.iload 5, 2) := dk_21 5 (dk_at dksX1_shareTold_1 7 rfl rfl)
theorem dX1_shareTold_33 : decode cX1_shareTold 33 = .ok (.ifCond .ne 7, 3) := dk_154 0 7 (dk_at dksX1_shareTold_1 9 rfl rfl)
theorem dX1_shareTold_36 : decode cX1_shareTold 36 = .ok (.iconst 1, 1) := dk_4 (dk_at dksX1_shareTold_1 12 rfl rfl)
theorem dX1_shareTold_37 : decode cX1_shareTold 37 = .ok (.goto 4, 3) := dk_167 0 4 (dk_at dksX1_shareTold_1 13 rfl rfl)
theorem dX1_shareTold_40 : decode cX1_shareTold 40 = .ok (.iconst 0, 1) := dk_3 (dk_at dksX1_shareTold_1 16 rfl rfl)
theorem dX1_shareTold_41 : decode cX1_shareTold 41 = .ok (.iadd, 1) := dk_96 (dk_at dksX1_shareTold_1 17 rfl rfl)
theorem dX1_shareTold_42 : decode cX1_shareTold 42 = .ok (.istore_n 1, 1) := dk_60 (dk_at dksX1_shareTold_1 18 rfl rfl)
theorem dX1_shareTold_43 : decode cX1_shareTold 43 = .ok (.iinc 4 1, 3) := dk_132 4 1 (dk_at dksX1_shareTold_1 19 rfl rfl)
theorem dX1_shareTold_46 : decode cX1_shareTold 46 = .ok (.goto (-28), 3) := dk_167 255 228 (dk_at dksX1_shareTold_2 0 rfl rfl)
theorem dX1_shareTold_49 : decode cX1_shareTold 49 = .ok (.iload_n 1, 1) := dk_27 (dk_at dksX1_shareTold_2 3 rfl rfl)
theorem dX1_shareTold_50 : decode cX1_shareTold 50 = .ok (.i2d, 1) := dk_135 (dk_at dksX1_shareTold_2 4 rfl rfl)
theorem dX1_shareTold_51 : decode cX1_shareTold 51 = .ok (.ldc2_w 333, 3) := dk_20 1 77 (dk_at dksX1_shareTold_2 5 rfl rfl)
theorem dX1_shareTold_54 : decode cX1_shareTold 54 = .ok (.ddiv, 1) := dk_111 (dk_at dksX1_shareTold_2 8 rfl rfl)
theorem dX1_shareTold_55 : decode cX1_shareTold 55 = .ok (.dreturn, 1) := dk_175 (dk_at dksX1_shareTold_2 9 rfl rfl)
abbrev cX1_digest : ByteArray := prog_1_method_84_code
def yX1_digest : MethodName := ⟨RX1, "digest", "()J"⟩
def dkwX1_digest_7 : List UInt8 := [42, 180, 0, 70, 27, 182, 1, 116, 133, 182, 1, 89, 132, 1, 1, 167, 255, 229, 42, 180, 1, 85, 173]
abbrev dktX1_digest_7 : List UInt8 := dkwX1_digest_7 ++ []
def dkwX1_digest_6 : List UInt8 := [180, 0, 70, 182, 0, 202, 133, 182, 1, 89, 3, 60, 27, 42, 180, 0, 70, 182, 0, 202, 162, 0, 22, 42]
abbrev dktX1_digest_6 : List UInt8 := dkwX1_digest_6 ++ dktX1_digest_7
def dkwX1_digest_5 : List UInt8 := [42, 180, 0, 16, 180, 0, 241, 133, 182, 1, 89, 42, 42, 182, 1, 79, 184, 1, 110, 182, 1, 89, 42, 42]
abbrev dktX1_digest_5 : List UInt8 := dkwX1_digest_5 ++ dktX1_digest_6
def dkwX1_digest_4 : List UInt8 := [42, 180, 0, 16, 180, 0, 238, 2, 159, 0, 27, 42, 42, 180, 0, 16, 180, 0, 238, 133, 182, 1, 89, 42]
abbrev dktX1_digest_4 : List UInt8 := dkwX1_digest_4 ++ dktX1_digest_5
def dkwX1_digest_3 : List UInt8 := [42, 182, 1, 104, 42, 42, 180, 0, 16, 180, 0, 238, 2, 159, 0, 7, 4, 167, 0, 4, 3, 182, 1, 107]
abbrev dktX1_digest_3 : List UInt8 := dkwX1_digest_3 ++ dktX1_digest_4
def dkwX1_digest_2 : List UInt8 := [133, 182, 1, 89, 42, 42, 180, 0, 63, 182, 0, 74, 133, 182, 1, 89, 42, 182, 1, 98, 42, 182, 1, 101]
abbrev dktX1_digest_2 : List UInt8 := dkwX1_digest_2 ++ dktX1_digest_3
def dkwX1_digest_1 : List UInt8 := [182, 0, 250, 133, 182, 1, 89, 42, 42, 182, 1, 45, 180, 1, 49, 133, 182, 1, 89, 42, 42, 182, 1, 68]
abbrev dktX1_digest_1 : List UInt8 := dkwX1_digest_1 ++ dktX1_digest_2
def dkwX1_digest_0 : List UInt8 := [42, 20, 1, 96, 181, 1, 85, 42, 42, 180, 0, 16, 180, 0, 110, 133, 182, 1, 89, 42, 42, 180, 0, 16]
abbrev dktX1_digest_0 : List UInt8 := dkwX1_digest_0 ++ dktX1_digest_1
theorem dksX1_digest_0 : cX1_digest.data.toList.drop 0 = dktX1_digest_0 := by decide +kernel
theorem dksX1_digest_1 : cX1_digest.data.toList.drop 24 = dktX1_digest_1 := dk_seg dksX1_digest_0 24 rfl rfl
theorem dksX1_digest_2 : cX1_digest.data.toList.drop 48 = dktX1_digest_2 := dk_seg dksX1_digest_1 24 rfl rfl
theorem dksX1_digest_3 : cX1_digest.data.toList.drop 72 = dktX1_digest_3 := dk_seg dksX1_digest_2 24 rfl rfl
theorem dksX1_digest_4 : cX1_digest.data.toList.drop 96 = dktX1_digest_4 := dk_seg dksX1_digest_3 24 rfl rfl
theorem dksX1_digest_5 : cX1_digest.data.toList.drop 120 = dktX1_digest_5 := dk_seg dksX1_digest_4 24 rfl rfl
theorem dksX1_digest_6 : cX1_digest.data.toList.drop 144 = dktX1_digest_6 := dk_seg dksX1_digest_5 24 rfl rfl
theorem dksX1_digest_7 : cX1_digest.data.toList.drop 168 = dktX1_digest_7 := dk_seg dksX1_digest_6 24 rfl rfl
theorem dX1_digest_0 : decode cX1_digest 0 = .ok (.aload_n 0, 1) := dk_42 (dk_at dksX1_digest_0 0 rfl rfl)
theorem dX1_digest_1 : decode cX1_digest 1 = .ok (.ldc2_w 352, 3) := dk_20 1 96 (dk_at dksX1_digest_0 1 rfl rfl)
theorem dX1_digest_4 : decode cX1_digest 4 = .ok (.putfield 341, 3) := dk_181 1 85 (dk_at dksX1_digest_0 4 rfl rfl)
theorem dX1_digest_7 : decode cX1_digest 7 = .ok (.aload_n 0, 1) := dk_42 (dk_at dksX1_digest_0 7 rfl rfl)
theorem dX1_digest_8 : decode cX1_digest 8 = .ok (.aload_n 0, 1) := dk_42 (dk_at dksX1_digest_0 8 rfl rfl)
theorem dX1_digest_9 : decode cX1_digest 9 = .ok (.getfield 16, 3) := dk_180 0 16 (dk_at dksX1_digest_0 9 rfl rfl)
theorem dX1_digest_12 : decode cX1_digest 12 = .ok (.getfield 110, 3) := dk_180 0 110 (dk_at dksX1_digest_0 12 rfl rfl)
theorem dX1_digest_15 : decode cX1_digest 15 = .ok (.i2l, 1) := dk_133 (dk_at dksX1_digest_0 15 rfl rfl)
theorem dX1_digest_16 : decode cX1_digest 16 = .ok (.invokevirtual 345, 3) := dk_182 1 89 (dk_at dksX1_digest_0 16 rfl rfl)
theorem dX1_digest_19 : decode cX1_digest 19 = .ok (.aload_n 0, 1) := dk_42 (dk_at dksX1_digest_0 19 rfl rfl)
theorem dX1_digest_20 : decode cX1_digest 20 = .ok (.aload_n 0, 1) := dk_42 (dk_at dksX1_digest_0 20 rfl rfl)
theorem dX1_digest_21 : decode cX1_digest 21 = .ok (.getfield 16, 3) := dk_180 0 16 (dk_at dksX1_digest_0 21 rfl rfl)
theorem dX1_digest_24 : decode cX1_digest 24 = .ok (.invokevirtual 250, 3) := dk_182 0 250 (dk_at dksX1_digest_1 0 rfl rfl)
theorem dX1_digest_27 : decode cX1_digest 27 = .ok (.i2l, 1) := dk_133 (dk_at dksX1_digest_1 3 rfl rfl)
theorem dX1_digest_28 : decode cX1_digest 28 = .ok (.invokevirtual 345, 3) := dk_182 1 89 (dk_at dksX1_digest_1 4 rfl rfl)
theorem dX1_digest_31 : decode cX1_digest 31 = .ok (.aload_n 0, 1) := dk_42 (dk_at dksX1_digest_1 7 rfl rfl)
theorem dX1_digest_32 : decode cX1_digest 32 = .ok (.aload_n 0, 1) := dk_42 (dk_at dksX1_digest_1 8 rfl rfl)
theorem dX1_digest_33 : decode cX1_digest 33 = .ok (.invokevirtual 301, 3) := dk_182 1 45 (dk_at dksX1_digest_1 9 rfl rfl)
theorem dX1_digest_36 : decode cX1_digest 36 = .ok (.getfield 305, 3) := dk_180 1 49 (dk_at dksX1_digest_1 12 rfl rfl)
theorem dX1_digest_39 : decode cX1_digest 39 = .ok (.i2l, 1) := dk_133 (dk_at dksX1_digest_1 15 rfl rfl)
theorem dX1_digest_40 : decode cX1_digest 40 = .ok (.invokevirtual 345, 3) := dk_182 1 89 (dk_at dksX1_digest_1 16 rfl rfl)
theorem dX1_digest_43 : decode cX1_digest 43 = .ok (.aload_n 0, 1) := dk_42 (dk_at dksX1_digest_1 19 rfl rfl)
theorem dX1_digest_44 : decode cX1_digest 44 = .ok (.aload_n 0, 1) := dk_42 (dk_at dksX1_digest_1 20 rfl rfl)
theorem dX1_digest_45 : decode cX1_digest 45 = .ok (.invokevirtual 324, 3) := dk_182 1 68 (dk_at dksX1_digest_1 21 rfl rfl)
theorem dX1_digest_48 : decode cX1_digest 48 = .ok (.i2l, 1) := dk_133 (dk_at dksX1_digest_2 0 rfl rfl)
theorem dX1_digest_49 : decode cX1_digest 49 = .ok (.invokevirtual 345, 3) := dk_182 1 89 (dk_at dksX1_digest_2 1 rfl rfl)
theorem dX1_digest_52 : decode cX1_digest 52 = .ok (.aload_n 0, 1) := dk_42 (dk_at dksX1_digest_2 4 rfl rfl)
theorem dX1_digest_53 : decode cX1_digest 53 = .ok (.aload_n 0, 1) := dk_42 (dk_at dksX1_digest_2 5 rfl rfl)
theorem dX1_digest_54 : decode cX1_digest 54 = .ok (.getfield 63, 3) := dk_180 0 63 (dk_at dksX1_digest_2 6 rfl rfl)
theorem dX1_digest_57 : decode cX1_digest 57 = .ok (.invokevirtual 74, 3) := dk_182 0 74 (dk_at dksX1_digest_2 9 rfl rfl)
theorem dX1_digest_60 : decode cX1_digest 60 = .ok (.i2l, 1) := dk_133 (dk_at dksX1_digest_2 12 rfl rfl)
theorem dX1_digest_61 : decode cX1_digest 61 = .ok (.invokevirtual 345, 3) := dk_182 1 89 (dk_at dksX1_digest_2 13 rfl rfl)
theorem dX1_digest_64 : decode cX1_digest 64 = .ok (.aload_n 0, 1) := dk_42 (dk_at dksX1_digest_2 16 rfl rfl)
theorem dX1_digest_65 : decode cX1_digest 65 = .ok (.invokevirtual 354, 3) := dk_182 1 98 (dk_at dksX1_digest_2 17 rfl rfl)
theorem dX1_digest_68 : decode cX1_digest 68 = .ok (.aload_n 0, 1) := dk_42 (dk_at dksX1_digest_2 20 rfl rfl)
theorem dX1_digest_69 : decode cX1_digest 69 = .ok (.invokevirtual 357, 3) := dk_182 1 101 (dk_at dksX1_digest_2 21 rfl rfl)
theorem dX1_digest_72 : decode cX1_digest 72 = .ok (.aload_n 0, 1) := dk_42 (dk_at dksX1_digest_3 0 rfl rfl)
theorem dX1_digest_73 : decode cX1_digest 73 = .ok (.invokevirtual 360, 3) := dk_182 1 104 (dk_at dksX1_digest_3 1 rfl rfl)
theorem dX1_digest_76 : decode cX1_digest 76 = .ok (.aload_n 0, 1) := dk_42 (dk_at dksX1_digest_3 4 rfl rfl)
theorem dX1_digest_77 : decode cX1_digest 77 = .ok (.aload_n 0, 1) := dk_42 (dk_at dksX1_digest_3 5 rfl rfl)
theorem dX1_digest_78 : decode cX1_digest 78 = .ok (.getfield 16, 3) := dk_180 0 16 (dk_at dksX1_digest_3 6 rfl rfl)
theorem dX1_digest_81 : decode cX1_digest 81 = .ok (.getfield 238, 3) := dk_180 0 238 (dk_at dksX1_digest_3 9 rfl rfl)
theorem dX1_digest_84 : decode cX1_digest 84 = .ok (.iconst (-1), 1) := dk_2 (dk_at dksX1_digest_3 12 rfl rfl)
theorem dX1_digest_85 : decode cX1_digest 85 = .ok (.if_icmp .eq 7, 3) := dk_159 0 7 (dk_at dksX1_digest_3 13 rfl rfl)
theorem dX1_digest_88 : decode cX1_digest 88 = .ok (.iconst 1, 1) := dk_4 (dk_at dksX1_digest_3 16 rfl rfl)
theorem dX1_digest_89 : decode cX1_digest 89 = .ok (.goto 4, 3) := dk_167 0 4 (dk_at dksX1_digest_3 17 rfl rfl)
theorem dX1_digest_92 : decode cX1_digest 92 = .ok (.iconst 0, 1) := dk_3 (dk_at dksX1_digest_3 20 rfl rfl)
theorem dX1_digest_93 : decode cX1_digest 93 = .ok (.invokevirtual 363, 3) := dk_182 1 107 (dk_at dksX1_digest_3 21 rfl rfl)
theorem dX1_digest_96 : decode cX1_digest 96 = .ok (.aload_n 0, 1) := dk_42 (dk_at dksX1_digest_4 0 rfl rfl)
theorem dX1_digest_97 : decode cX1_digest 97 = .ok (.getfield 16, 3) := dk_180 0 16 (dk_at dksX1_digest_4 1 rfl rfl)
theorem dX1_digest_100 : decode cX1_digest 100 = .ok (.getfield 238, 3) := dk_180 0 238 (dk_at dksX1_digest_4 4 rfl rfl)
theorem dX1_digest_103 : decode cX1_digest 103 = .ok (.iconst (-1), 1) := dk_2 (dk_at dksX1_digest_4 7 rfl rfl)
theorem dX1_digest_104 : decode cX1_digest 104 = .ok (.if_icmp .eq 27, 3) := dk_159 0 27 (dk_at dksX1_digest_4 8 rfl rfl)
theorem dX1_digest_107 : decode cX1_digest 107 = .ok (.aload_n 0, 1) := dk_42 (dk_at dksX1_digest_4 11 rfl rfl)
theorem dX1_digest_108 : decode cX1_digest 108 = .ok (.aload_n 0, 1) := dk_42 (dk_at dksX1_digest_4 12 rfl rfl)
theorem dX1_digest_109 : decode cX1_digest 109 = .ok (.getfield 16, 3) := dk_180 0 16 (dk_at dksX1_digest_4 13 rfl rfl)
theorem dX1_digest_112 : decode cX1_digest 112 = .ok (.getfield 238, 3) := dk_180 0 238 (dk_at dksX1_digest_4 16 rfl rfl)
theorem dX1_digest_115 : decode cX1_digest 115 = .ok (.i2l, 1) := dk_133 (dk_at dksX1_digest_4 19 rfl rfl)
theorem dX1_digest_116 : decode cX1_digest 116 = .ok (.invokevirtual 345, 3) := dk_182 1 89 (dk_at dksX1_digest_4 20 rfl rfl)
theorem dX1_digest_119 : decode cX1_digest 119 = .ok (.aload_n 0, 1) := dk_42 (dk_at dksX1_digest_4 23 rfl rfl)
theorem dX1_digest_120 : decode cX1_digest 120 = .ok (.aload_n 0, 1) := dk_42 (dk_at dksX1_digest_5 0 rfl rfl)
theorem dX1_digest_121 : decode cX1_digest 121 = .ok (.getfield 16, 3) := dk_180 0 16 (dk_at dksX1_digest_5 1 rfl rfl)
theorem dX1_digest_124 : decode cX1_digest 124 = .ok (.getfield 241, 3) := dk_180 0 241 (dk_at dksX1_digest_5 4 rfl rfl)
theorem dX1_digest_127 : decode cX1_digest 127 = .ok (.i2l, 1) := dk_133 (dk_at dksX1_digest_5 7 rfl rfl)
theorem dX1_digest_128 : decode cX1_digest 128 = .ok (.invokevirtual 345, 3) := dk_182 1 89 (dk_at dksX1_digest_5 8 rfl rfl)
theorem dX1_digest_131 : decode cX1_digest 131 = .ok (.aload_n 0, 1) := dk_42 (dk_at dksX1_digest_5 11 rfl rfl)
theorem dX1_digest_132 : decode cX1_digest 132 = .ok (.aload_n 0, 1) := dk_42 (dk_at dksX1_digest_5 12 rfl rfl)
theorem dX1_digest_133 : decode cX1_digest 133 = .ok (.invokevirtual 335, 3) := dk_182 1 79 (dk_at dksX1_digest_5 13 rfl rfl)
theorem dX1_digest_136 : decode cX1_digest 136 = .ok (.invokestatic 366, 3) := dk_184 1 110 (dk_at dksX1_digest_5 16 rfl rfl)
theorem dX1_digest_139 : decode cX1_digest 139 = .ok (.invokevirtual 345, 3) := dk_182 1 89 (dk_at dksX1_digest_5 19 rfl rfl)
theorem dX1_digest_142 : decode cX1_digest 142 = .ok (.aload_n 0, 1) := dk_42 (dk_at dksX1_digest_5 22 rfl rfl)
theorem dX1_digest_143 : decode cX1_digest 143 = .ok (.aload_n 0, 1) := dk_42 (dk_at dksX1_digest_5 23 rfl rfl)
theorem dX1_digest_144 : decode cX1_digest 144 = .ok (.getfield 70, 3) := dk_180 0 70 (dk_at dksX1_digest_6 0 rfl rfl)
theorem dX1_digest_147 : decode cX1_digest 147 = .ok (.invokevirtual 202, 3) := dk_182 0 202 (dk_at dksX1_digest_6 3 rfl rfl)
theorem dX1_digest_150 : decode cX1_digest 150 = .ok (.i2l, 1) := dk_133 (dk_at dksX1_digest_6 6 rfl rfl)
theorem dX1_digest_151 : decode cX1_digest 151 = .ok (.invokevirtual 345, 3) := dk_182 1 89 (dk_at dksX1_digest_6 7 rfl rfl)
theorem dX1_digest_154 : decode cX1_digest 154 = .ok (.iconst 0, 1) := dk_3 (dk_at dksX1_digest_6 10 rfl rfl)
theorem dX1_digest_155 : decode cX1_digest 155 = .ok (.istore_n 1, 1) := dk_60 (dk_at dksX1_digest_6 11 rfl rfl)
theorem dX1_digest_156 : decode cX1_digest 156 = .ok (.iload_n 1, 1) := dk_27 (dk_at dksX1_digest_6 12 rfl rfl)
theorem dX1_digest_157 : decode cX1_digest 157 = .ok (.aload_n 0, 1) := dk_42 (dk_at dksX1_digest_6 13 rfl rfl)
theorem dX1_digest_158 : decode cX1_digest 158 = .ok (.getfield 70, 3) := dk_180 0 70 (dk_at dksX1_digest_6 14 rfl rfl)
theorem dX1_digest_161 : decode cX1_digest 161 = .ok (.invokevirtual 202, 3) := dk_182 0 202 (dk_at dksX1_digest_6 17 rfl rfl)
theorem dX1_digest_164 : decode cX1_digest 164 = .ok (.if_icmp .ge 22, 3) := dk_162 0 22 (dk_at dksX1_digest_6 20 rfl rfl)
theorem dX1_digest_167 : decode cX1_digest 167 = .ok (.aload_n 0, 1) := dk_42 (dk_at dksX1_digest_6 23 rfl rfl)
theorem dX1_digest_168 : decode cX1_digest 168 = .ok (.aload_n 0, 1) := dk_42 (dk_at dksX1_digest_7 0 rfl rfl)
theorem dX1_digest_169 : decode cX1_digest 169 = .ok (.getfield 70, 3) := dk_180 0 70 (dk_at dksX1_digest_7 1 rfl rfl)
theorem dX1_digest_172 : decode cX1_digest 172 = .ok (.iload_n 1, 1) := dk_27 (dk_at dksX1_digest_7 4 rfl rfl)
theorem dX1_digest_173 : decode cX1_digest 173 = .ok (.invokevirtual 372, 3) := dk_182 1 116 (dk_at dksX1_digest_7 5 rfl rfl)
theorem dX1_digest_176 : decode cX1_digest 176 = .ok (.i2l, 1) := dk_133 (dk_at dksX1_digest_7 8 rfl rfl)
theorem dX1_digest_177 : decode cX1_digest 177 = .ok (.invokevirtual 345, 3) := dk_182 1 89 (dk_at dksX1_digest_7 9 rfl rfl)
theorem dX1_digest_180 : decode cX1_digest 180 = .ok (.iinc 1 1, 3) := dk_132 1 1 (dk_at dksX1_digest_7 12 rfl rfl)
theorem dX1_digest_183 : decode cX1_digest 183 = .ok (.goto (-27), 3) := dk_167 255 229 (dk_at dksX1_digest_7 15 rfl rfl)
theorem dX1_digest_186 : decode cX1_digest 186 = .ok (.aload_n 0, 1) := dk_42 (dk_at dksX1_digest_7 18 rfl rfl)
theorem dX1_digest_187 : decode cX1_digest 187 = .ok (.getfield 341, 3) := dk_180 1 85 (dk_at dksX1_digest_7 19 rfl rfl)
theorem dX1_digest_190 : decode cX1_digest 190 = .ok (.lreturn, 1) := dk_173 (dk_at dksX1_digest_7 22 rfl rfl)
abbrev cX1_mix : ByteArray := prog_1_method_79_code
def yX1_mix : MethodName := ⟨RX1, "mix", "(J)V"⟩
def dkwX1_mix_0 : List UInt8 := [42, 20, 1, 83, 42, 180, 1, 85, 105, 31, 97, 181, 1, 85, 177]
abbrev dktX1_mix_0 : List UInt8 := dkwX1_mix_0 ++ []
theorem dksX1_mix_0 : cX1_mix.data.toList.drop 0 = dktX1_mix_0 := by decide +kernel
theorem dX1_mix_0 : decode cX1_mix 0 = .ok (.aload_n 0, 1) := dk_42 (dk_at dksX1_mix_0 0 rfl rfl)
theorem dX1_mix_1 : decode cX1_mix 1 = .ok (.ldc2_w 339, 3) := dk_20 1 83 (dk_at dksX1_mix_0 1 rfl rfl)
theorem dX1_mix_4 : decode cX1_mix 4 = .ok (.aload_n 0, 1) := dk_42 (dk_at dksX1_mix_0 4 rfl rfl)
theorem dX1_mix_5 : decode cX1_mix 5 = .ok (.getfield 341, 3) := dk_180 1 85 (dk_at dksX1_mix_0 5 rfl rfl)
theorem dX1_mix_8 : decode cX1_mix 8 = .ok (.lmul, 1) := dk_105 (dk_at dksX1_mix_0 8 rfl rfl)
theorem dX1_mix_9 : decode cX1_mix 9 = .ok (.lload_n 1, 1) := dk_31 (dk_at dksX1_mix_0 9 rfl rfl)
theorem dX1_mix_10 : decode cX1_mix 10 = .ok (.ladd, 1) := dk_97 (dk_at dksX1_mix_0 10 rfl rfl)
theorem dX1_mix_11 : decode cX1_mix 11 = .ok (.putfield 341, 3) := dk_181 1 85 (dk_at dksX1_mix_0 11 rfl rfl)
theorem dX1_mix_14 : decode cX1_mix 14 = .ok (.return_, 1) := dk_177 (dk_at dksX1_mix_0 14 rfl rfl)
abbrev cX1_mixCells : ByteArray := prog_1_method_81_code
def yX1_mixCells : MethodName := ⟨RX1, "mixCells", "()V"⟩
def dkwX1_mixCells_6 : List UInt8 := [167, 255, 237, 177]
abbrev dktX1_mixCells_6 : List UInt8 := dkwX1_mixCells_6 ++ []
def dkwX1_mixCells_5 : List UInt8 := [167, 255, 171, 3, 61, 28, 16, 10, 162, 0, 19, 42, 42, 28, 182, 1, 0, 133, 182, 1, 89, 132, 2, 1]
abbrev dktX1_mixCells_5 : List UInt8 := dkwX1_mixCells_5 ++ dktX1_mixCells_6
def dkwX1_mixCells_4 : List UInt8 := [182, 1, 89, 42, 42, 3, 28, 16, 8, 108, 28, 16, 8, 112, 182, 1, 3, 133, 182, 1, 89, 132, 2, 1]
abbrev dktX1_mixCells_4 : List UInt8 := dkwX1_mixCells_4 ++ dktX1_mixCells_5
def dkwX1_mixCells_3 : List UInt8 := [182, 1, 89, 42, 43, 180, 0, 253, 28, 46, 133, 182, 1, 89, 42, 42, 180, 0, 57, 28, 46, 133]
abbrev dktX1_mixCells_3 : List UInt8 := dkwX1_mixCells_3 ++ dktX1_mixCells_4
def dkwX1_mixCells_2 : List UInt8 := [182, 1, 89, 42, 42, 180, 0, 50, 28, 46, 133, 182, 1, 89, 42, 43, 180, 0, 165, 28, 46, 133]
abbrev dktX1_mixCells_2 : List UInt8 := dkwX1_mixCells_2 ++ dktX1_mixCells_3
def dkwX1_mixCells_1 : List UInt8 := [182, 0, 161, 76, 3, 61, 28, 16, 64, 162, 0, 85, 42, 42, 180, 0, 16, 180, 0, 114, 28, 46, 133]
abbrev dktX1_mixCells_1 : List UInt8 := dkwX1_mixCells_1 ++ dktX1_mixCells_2
def dkwX1_mixCells_0 : List UInt8 := [42, 180, 0, 32, 42, 182, 0, 140, 42, 180, 0, 57, 42, 180, 0, 16, 180, 0, 110, 182, 0, 150, 87, 42]
abbrev dktX1_mixCells_0 : List UInt8 := dkwX1_mixCells_0 ++ dktX1_mixCells_1
theorem dksX1_mixCells_0 : cX1_mixCells.data.toList.drop 0 = dktX1_mixCells_0 := by decide +kernel
theorem dksX1_mixCells_1 : cX1_mixCells.data.toList.drop 24 = dktX1_mixCells_1 := dk_seg dksX1_mixCells_0 24 rfl rfl
theorem dksX1_mixCells_2 : cX1_mixCells.data.toList.drop 47 = dktX1_mixCells_2 := dk_seg dksX1_mixCells_1 23 rfl rfl
theorem dksX1_mixCells_3 : cX1_mixCells.data.toList.drop 69 = dktX1_mixCells_3 := dk_seg dksX1_mixCells_2 22 rfl rfl
theorem dksX1_mixCells_4 : cX1_mixCells.data.toList.drop 91 = dktX1_mixCells_4 := dk_seg dksX1_mixCells_3 22 rfl rfl
theorem dksX1_mixCells_5 : cX1_mixCells.data.toList.drop 115 = dktX1_mixCells_5 := dk_seg dksX1_mixCells_4 24 rfl rfl
theorem dksX1_mixCells_6 : cX1_mixCells.data.toList.drop 139 = dktX1_mixCells_6 := dk_seg dksX1_mixCells_5 24 rfl rfl
theorem dX1_mixCells_0 : decode cX1_mixCells 0 = .ok (.aload_n 0, 1) := dk_42 (dk_at dksX1_mixCells_0 0 rfl rfl)
theorem dX1_mixCells_1 : decode cX1_mixCells 1 = .ok (.getfield 32, 3) := dk_180 0 32 (dk_at dksX1_mixCells_0 1 rfl rfl)
theorem dX1_mixCells_4 : decode cX1_mixCells 4 = .ok (.aload_n 0, 1) := dk_42 (dk_at dksX1_mixCells_0 4 rfl rfl)
theorem dX1_mixCells_5 : decode cX1_mixCells 5 = .ok (.invokevirtual 140, 3) := dk_182 0 140 (dk_at dksX1_mixCells_0 5 rfl rfl)
theorem dX1_mixCells_8 : decode cX1_mixCells 8 = .ok (.aload_n 0, 1) := dk_42 (dk_at dksX1_mixCells_0 8 rfl rfl)
theorem dX1_mixCells_9 : decode cX1_mixCells 9 = .ok (.getfield 57, 3) := dk_180 0 57 (dk_at dksX1_mixCells_0 9 rfl rfl)
theorem dX1_mixCells_12 : decode cX1_mixCells 12 = .ok (.aload_n 0, 1) := dk_42 (dk_at dksX1_mixCells_0 12 rfl rfl)
theorem dX1_mixCells_13 : decode cX1_mixCells 13 = .ok (.getfield 16, 3) := dk_180 0 16 (dk_at dksX1_mixCells_0 13 rfl rfl)
theorem dX1_mixCells_16 : decode cX1_mixCells 16 = .ok (.getfield 110, 3) := dk_180 0 110 (dk_at dksX1_mixCells_0 16 rfl rfl)
theorem dX1_mixCells_19 : decode cX1_mixCells 19 = .ok (.invokevirtual 150, 3) := dk_182 0 150 (dk_at dksX1_mixCells_0 19 rfl rfl)
theorem dX1_mixCells_22 : decode cX1_mixCells 22 = .ok (.pop, 1) := dk_87 (dk_at dksX1_mixCells_0 22 rfl rfl)
theorem dX1_mixCells_23 : decode cX1_mixCells 23 = .ok (.aload_n 0, 1) := dk_42 (dk_at dksX1_mixCells_0 23 rfl rfl)
theorem dX1_mixCells_24 : decode cX1_mixCells 24 = .ok (.invokevirtual 161, 3) := dk_182 0 161 (dk_at dksX1_mixCells_1 0 rfl rfl)
theorem dX1_mixCells_27 : decode cX1_mixCells 27 = .ok (.astore_n 1, 1) := dk_76 (dk_at dksX1_mixCells_1 3 rfl rfl)
theorem dX1_mixCells_28 : decode cX1_mixCells 28 = .ok (.iconst 0, 1) := dk_3 (dk_at dksX1_mixCells_1 4 rfl rfl)
theorem dX1_mixCells_29 : decode cX1_mixCells 29 = .ok (.istore_n 2, 1) := dk_61 (dk_at dksX1_mixCells_1 5 rfl rfl)
theorem dX1_mixCells_30 : decode cX1_mixCells 30 = .ok (.iload_n 2, 1) := dk_28 (dk_at dksX1_mixCells_1 6 rfl rfl)
theorem dX1_mixCells_31 : decode cX1_mixCells 31 = .ok (.bipush 64, 2) := dk_16 64 (dk_at dksX1_mixCells_1 7 rfl rfl)
theorem dX1_mixCells_33 : decode cX1_mixCells 33 = .ok (.if_icmp .ge 85, 3) := dk_162 0 85 (dk_at dksX1_mixCells_1 9 rfl rfl)
theorem dX1_mixCells_36 : decode cX1_mixCells 36 = .ok (.aload_n 0, 1) := dk_42 (dk_at dksX1_mixCells_1 12 rfl rfl)
theorem dX1_mixCells_37 : decode cX1_mixCells 37 = .ok (.aload_n 0, 1) := dk_42 (dk_at dksX1_mixCells_1 13 rfl rfl)
theorem dX1_mixCells_38 : decode cX1_mixCells 38 = .ok (.getfield 16, 3) := dk_180 0 16 (dk_at dksX1_mixCells_1 14 rfl rfl)
theorem dX1_mixCells_41 : decode cX1_mixCells 41 = .ok (.getfield 114, 3) := dk_180 0 114 (dk_at dksX1_mixCells_1 17 rfl rfl)
theorem dX1_mixCells_44 : decode cX1_mixCells 44 = .ok (.iload_n 2, 1) := dk_28 (dk_at dksX1_mixCells_1 20 rfl rfl)
theorem dX1_mixCells_45 : decode cX1_mixCells 45 = .ok (.iaload, 1) := dk_46 (dk_at dksX1_mixCells_1 21 rfl rfl)
theorem dX1_mixCells_46 : decode cX1_mixCells 46 = .ok (.i2l, 1) := dk_133 (dk_at dksX1_mixCells_1 22 rfl rfl)
theorem dX1_mixCells_47 : decode cX1_mixCells 47 = .ok (.invokevirtual 345, 3) := dk_182 1 89 (dk_at dksX1_mixCells_2 0 rfl rfl)
theorem dX1_mixCells_50 : decode cX1_mixCells 50 = .ok (.aload_n 0, 1) := dk_42 (dk_at dksX1_mixCells_2 3 rfl rfl)
theorem dX1_mixCells_51 : decode cX1_mixCells 51 = .ok (.aload_n 0, 1) := dk_42 (dk_at dksX1_mixCells_2 4 rfl rfl)
theorem dX1_mixCells_52 : decode cX1_mixCells 52 = .ok (.getfield 50, 3) := dk_180 0 50 (dk_at dksX1_mixCells_2 5 rfl rfl)
theorem dX1_mixCells_55 : decode cX1_mixCells 55 = .ok (.iload_n 2, 1) := dk_28 (dk_at dksX1_mixCells_2 8 rfl rfl)
theorem dX1_mixCells_56 : decode cX1_mixCells 56 = .ok (.iaload, 1) := dk_46 (dk_at dksX1_mixCells_2 9 rfl rfl)
theorem dX1_mixCells_57 : decode cX1_mixCells 57 = .ok (.i2l, 1) := dk_133 (dk_at dksX1_mixCells_2 10 rfl rfl)
theorem dX1_mixCells_58 : decode cX1_mixCells 58 = .ok (.invokevirtual 345, 3) := dk_182 1 89 (dk_at dksX1_mixCells_2 11 rfl rfl)
theorem dX1_mixCells_61 : decode cX1_mixCells 61 = .ok (.aload_n 0, 1) := dk_42 (dk_at dksX1_mixCells_2 14 rfl rfl)
theorem dX1_mixCells_62 : decode cX1_mixCells 62 = .ok (.aload_n 1, 1) := dk_43 (dk_at dksX1_mixCells_2 15 rfl rfl)
theorem dX1_mixCells_63 : decode cX1_mixCells 63 = .ok (.getfield 165, 3) := dk_180 0 165 (dk_at dksX1_mixCells_2 16 rfl rfl)
theorem dX1_mixCells_66 : decode cX1_mixCells 66 = .ok (.iload_n 2, 1) := dk_28 (dk_at dksX1_mixCells_2 19 rfl rfl)
theorem dX1_mixCells_67 : decode cX1_mixCells 67 = .ok (.iaload, 1) := dk_46 (dk_at dksX1_mixCells_2 20 rfl rfl)
theorem dX1_mixCells_68 : decode cX1_mixCells 68 = .ok (.i2l, 1) := dk_133 (dk_at dksX1_mixCells_2 21 rfl rfl)
theorem dX1_mixCells_69 : decode cX1_mixCells 69 = .ok (.invokevirtual 345, 3) := dk_182 1 89 (dk_at dksX1_mixCells_3 0 rfl rfl)
theorem dX1_mixCells_72 : decode cX1_mixCells 72 = .ok (.aload_n 0, 1) := dk_42 (dk_at dksX1_mixCells_3 3 rfl rfl)
theorem dX1_mixCells_73 : decode cX1_mixCells 73 = .ok (.aload_n 1, 1) := dk_43 (dk_at dksX1_mixCells_3 4 rfl rfl)
theorem dX1_mixCells_74 : decode cX1_mixCells 74 = .ok (.getfield 253, 3) := dk_180 0 253 (dk_at dksX1_mixCells_3 5 rfl rfl)
theorem dX1_mixCells_77 : decode cX1_mixCells 77 = .ok (.iload_n 2, 1) := dk_28 (dk_at dksX1_mixCells_3 8 rfl rfl)
theorem dX1_mixCells_78 : decode cX1_mixCells 78 = .ok (.iaload, 1) := dk_46 (dk_at dksX1_mixCells_3 9 rfl rfl)
theorem dX1_mixCells_79 : decode cX1_mixCells 79 = .ok (.i2l, 1) := dk_133 (dk_at dksX1_mixCells_3 10 rfl rfl)
theorem dX1_mixCells_80 : decode cX1_mixCells 80 = .ok (.invokevirtual 345, 3) := dk_182 1 89 (dk_at dksX1_mixCells_3 11 rfl rfl)
theorem dX1_mixCells_83 : decode cX1_mixCells 83 = .ok (.aload_n 0, 1) := dk_42 (dk_at dksX1_mixCells_3 14 rfl rfl)
theorem dX1_mixCells_84 : decode cX1_mixCells 84 = .ok (.aload_n 0, 1) := dk_42 (dk_at dksX1_mixCells_3 15 rfl rfl)
theorem dX1_mixCells_85 : decode cX1_mixCells 85 = .ok (.getfield 57, 3) := dk_180 0 57 (dk_at dksX1_mixCells_3 16 rfl rfl)
theorem dX1_mixCells_88 : decode cX1_mixCells 88 = .ok (.iload_n 2, 1) := dk_28 (dk_at dksX1_mixCells_3 19 rfl rfl)
theorem dX1_mixCells_89 : decode cX1_mixCells 89 = .ok (.iaload, 1) := dk_46 (dk_at dksX1_mixCells_3 20 rfl rfl)
theorem dX1_mixCells_90 : decode cX1_mixCells 90 = .ok (.i2l, 1) := dk_133 (dk_at dksX1_mixCells_3 21 rfl rfl)
theorem dX1_mixCells_91 : decode cX1_mixCells 91 = .ok (.invokevirtual 345, 3) := dk_182 1 89 (dk_at dksX1_mixCells_4 0 rfl rfl)
theorem dX1_mixCells_94 : decode cX1_mixCells 94 = .ok (.aload_n 0, 1) := dk_42 (dk_at dksX1_mixCells_4 3 rfl rfl)
theorem dX1_mixCells_95 : decode cX1_mixCells 95 = .ok (.aload_n 0, 1) := dk_42 (dk_at dksX1_mixCells_4 4 rfl rfl)
theorem dX1_mixCells_96 : decode cX1_mixCells 96 = .ok (.iconst 0, 1) := dk_3 (dk_at dksX1_mixCells_4 5 rfl rfl)
theorem dX1_mixCells_97 : decode cX1_mixCells 97 = .ok (.iload_n 2, 1) := dk_28 (dk_at dksX1_mixCells_4 6 rfl rfl)
theorem dX1_mixCells_98 : decode cX1_mixCells 98 = .ok (.bipush 8, 2) := dk_16 8 (dk_at dksX1_mixCells_4 7 rfl rfl)
theorem dX1_mixCells_100 : decode cX1_mixCells 100 = .ok (.idiv, 1) := dk_108 (dk_at dksX1_mixCells_4 9 rfl rfl)
theorem dX1_mixCells_101 : decode cX1_mixCells 101 = .ok (.iload_n 2, 1) := dk_28 (dk_at dksX1_mixCells_4 10 rfl rfl)
theorem dX1_mixCells_102 : decode cX1_mixCells 102 = .ok (.bipush 8, 2) := dk_16 8 (dk_at dksX1_mixCells_4 11 rfl rfl)
theorem dX1_mixCells_104 : decode cX1_mixCells 104 = .ok (.irem, 1) := dk_112 (dk_at dksX1_mixCells_4 13 rfl rfl)
theorem dX1_mixCells_105 : decode cX1_mixCells 105 = .ok (.invokevirtual 259, 3) := dk_182 1 3 (dk_at dksX1_mixCells_4 14 rfl rfl)
theorem dX1_mixCells_108 : decode cX1_mixCells 108 = .ok (.i2l, 1) := dk_133 (dk_at dksX1_mixCells_4 17 rfl rfl)
theorem dX1_mixCells_109 : decode cX1_mixCells 109 = .ok (.invokevirtual 345, 3) := dk_182 1 89 (dk_at dksX1_mixCells_4 18 rfl rfl)
theorem dX1_mixCells_112 : decode cX1_mixCells 112 = .ok (.iinc 2 1, 3) := dk_132 2 1 (dk_at dksX1_mixCells_4 21 rfl rfl)
theorem dX1_mixCells_115 : decode cX1_mixCells 115 = .ok (.goto (-85), 3) := dk_167 255 171 (dk_at dksX1_mixCells_5 0 rfl rfl)
theorem dX1_mixCells_118 : decode cX1_mixCells 118 = .ok (.iconst 0, 1) := dk_3 (dk_at dksX1_mixCells_5 3 rfl rfl)
theorem dX1_mixCells_119 : decode cX1_mixCells 119 = .ok (.istore_n 2, 1) := dk_61 (dk_at dksX1_mixCells_5 4 rfl rfl)
theorem dX1_mixCells_120 : decode cX1_mixCells 120 = .ok (.iload_n 2, 1) := dk_28 (dk_at dksX1_mixCells_5 5 rfl rfl)
theorem dX1_mixCells_121 : decode cX1_mixCells 121 = .ok (.bipush 10, 2) := dk_16 10 (dk_at dksX1_mixCells_5 6 rfl rfl)
theorem dX1_mixCells_123 : decode cX1_mixCells 123 = .ok (.if_icmp .ge 19, 3) := dk_162 0 19 (dk_at dksX1_mixCells_5 8 rfl rfl)
theorem dX1_mixCells_126 : decode cX1_mixCells 126 = .ok (.aload_n 0, 1) := dk_42 (dk_at dksX1_mixCells_5 11 rfl rfl)
theorem dX1_mixCells_127 : decode cX1_mixCells 127 = .ok (.aload_n 0, 1) := dk_42 (dk_at dksX1_mixCells_5 12 rfl rfl)
theorem dX1_mixCells_128 : decode cX1_mixCells 128 = .ok (.iload_n 2, 1) := dk_28 (dk_at dksX1_mixCells_5 13 rfl rfl)
theorem dX1_mixCells_129 : decode cX1_mixCells 129 = .ok (.invokevirtual 256, 3) := dk_182 1 0 (dk_at dksX1_mixCells_5 14 rfl rfl)
theorem dX1_mixCells_132 : decode cX1_mixCells 132 = .ok (.i2l, 1) := dk_133 (dk_at dksX1_mixCells_5 17 rfl rfl)
theorem dX1_mixCells_133 : decode cX1_mixCells 133 = .ok (.invokevirtual 345, 3) := dk_182 1 89 (dk_at dksX1_mixCells_5 18 rfl rfl)
theorem dX1_mixCells_136 : decode cX1_mixCells 136 = .ok (.iinc 2 1, 3) := dk_132 2 1 (dk_at dksX1_mixCells_5 21 rfl rfl)
theorem dX1_mixCells_139 : decode cX1_mixCells 139 = .ok (.goto (-19), 3) := dk_167 255 237 (dk_at dksX1_mixCells_6 0 rfl rfl)
theorem dX1_mixCells_142 : decode cX1_mixCells 142 = .ok (.return_, 1) := dk_177 (dk_at dksX1_mixCells_6 3 rfl rfl)
abbrev cX1_oneOf : ByteArray := prog_1_method_3_code
def yX1_oneOf : MethodName := ⟨RX1, "oneOf", "(III)I"⟩
def dkwX1_oneOf_0 : List UInt8 := [26, 27, 4, 96, 4, 122, 96, 62, 28, 4, 160, 0, 9, 29, 27, 100, 167, 0, 4, 29, 172]
abbrev dktX1_oneOf_0 : List UInt8 := dkwX1_oneOf_0 ++ []
theorem dksX1_oneOf_0 : cX1_oneOf.data.toList.drop 0 = dktX1_oneOf_0 := by decide +kernel
theorem dX1_oneOf_0 : decode cX1_oneOf 0 = .ok (.iload_n 0, 1) := dk_26 (dk_at dksX1_oneOf_0 0 rfl rfl)
theorem dX1_oneOf_1 : decode cX1_oneOf 1 = .ok (.iload_n 1, 1) := dk_27 (dk_at dksX1_oneOf_0 1 rfl rfl)
theorem dX1_oneOf_2 : decode cX1_oneOf 2 = .ok (.iconst 1, 1) := dk_4 (dk_at dksX1_oneOf_0 2 rfl rfl)
theorem dX1_oneOf_3 : decode cX1_oneOf 3 = .ok (.iadd, 1) := dk_96 (dk_at dksX1_oneOf_0 3 rfl rfl)
theorem dX1_oneOf_4 : decode cX1_oneOf 4 = .ok (.iconst 1, 1) := dk_4 (dk_at dksX1_oneOf_0 4 rfl rfl)
theorem dX1_oneOf_5 : decode cX1_oneOf 5 = .ok (.ishr, 1) := dk_122 (dk_at dksX1_oneOf_0 5 rfl rfl)
theorem dX1_oneOf_6 : decode cX1_oneOf 6 = .ok (.iadd, 1) := dk_96 (dk_at dksX1_oneOf_0 6 rfl rfl)
theorem dX1_oneOf_7 : decode cX1_oneOf 7 = .ok (.istore_n 3, 1) := dk_62 (dk_at dksX1_oneOf_0 7 rfl rfl)
theorem dX1_oneOf_8 : decode cX1_oneOf 8 = .ok (.iload_n 2, 1) := dk_28 (dk_at dksX1_oneOf_0 8 rfl rfl)
theorem dX1_oneOf_9 : decode cX1_oneOf 9 = .ok (.iconst 1, 1) := dk_4 (dk_at dksX1_oneOf_0 9 rfl rfl)
theorem dX1_oneOf_10 : decode cX1_oneOf 10 = .ok (.if_icmp .ne 9, 3) := dk_160 0 9 (dk_at dksX1_oneOf_0 10 rfl rfl)
theorem dX1_oneOf_13 : decode cX1_oneOf 13 = .ok (.iload_n 3, 1) := dk_29 (dk_at dksX1_oneOf_0 13 rfl rfl)
theorem dX1_oneOf_14 : decode cX1_oneOf 14 = .ok (.iload_n 1, 1) := dk_27 (dk_at dksX1_oneOf_0 14 rfl rfl)
theorem dX1_oneOf_15 : decode cX1_oneOf 15 = .ok (.isub, 1) := dk_100 (dk_at dksX1_oneOf_0 15 rfl rfl)
theorem dX1_oneOf_16 : decode cX1_oneOf 16 = .ok (.goto 4, 3) := dk_167 0 4 (dk_at dksX1_oneOf_0 16 rfl rfl)
theorem dX1_oneOf_19 : decode cX1_oneOf 19 = .ok (.iload_n 3, 1) := dk_29 (dk_at dksX1_oneOf_0 19 rfl rfl)
theorem dX1_oneOf_20 : decode cX1_oneOf 20 = .ok (.ireturn, 1) := dk_172 (dk_at dksX1_oneOf_0 20 rfl rfl)
abbrev cX1_numberAt : ByteArray := prog_1_method_50_code
def yX1_numberAt : MethodName := ⟨RX1, "numberAt", "(III)I"⟩
def dkwX1_numberAt_5 : List UInt8 := [54, 8, 21, 7, 21, 8, 29, 5, 112, 184, 1, 6, 172]
abbrev dktX1_numberAt_5 : List UInt8 := dkwX1_numberAt_5 ++ []
def dkwX1_numberAt_4 : List UInt8 := [180, 0, 50, 16, 8, 21, 4, 21, 5, 96, 104, 21, 4, 96, 21, 6, 96, 46, 28, 5, 112, 184, 1, 6]
abbrev dktX1_numberAt_4 : List UInt8 := dkwX1_numberAt_4 ++ dktX1_numberAt_5
def dkwX1_numberAt_3 : List UInt8 := [184, 1, 6, 54, 7, 42, 180, 0, 50, 16, 8, 21, 5, 104, 21, 4, 96, 21, 6, 96, 46, 42]
abbrev dktX1_numberAt_3 : List UInt8 := dkwX1_numberAt_3 ++ dktX1_numberAt_4
def dkwX1_numberAt_2 : List UInt8 := [21, 6, 182, 1, 3, 42, 180, 0, 50, 16, 8, 21, 4, 21, 5, 96, 104, 21, 6, 96, 46, 28, 5, 112]
abbrev dktX1_numberAt_2 : List UInt8 := dkwX1_numberAt_2 ++ dktX1_numberAt_3
def dkwX1_numberAt_1 : List UInt8 := [16, 8, 27, 4, 96, 122, 54, 4, 28, 5, 108, 54, 5, 29, 5, 108, 54, 6, 42, 27, 4, 96, 21, 5]
abbrev dktX1_numberAt_1 : List UInt8 := dkwX1_numberAt_1 ++ dktX1_numberAt_2
def dkwX1_numberAt_0 : List UInt8 := [27, 42, 180, 0, 16, 180, 0, 110, 160, 0, 15, 42, 180, 0, 50, 16, 8, 28, 104, 29, 96, 46, 172]
abbrev dktX1_numberAt_0 : List UInt8 := dkwX1_numberAt_0 ++ dktX1_numberAt_1
theorem dksX1_numberAt_0 : cX1_numberAt.data.toList.drop 0 = dktX1_numberAt_0 := by decide +kernel
theorem dksX1_numberAt_1 : cX1_numberAt.data.toList.drop 23 = dktX1_numberAt_1 := dk_seg dksX1_numberAt_0 23 rfl rfl
theorem dksX1_numberAt_2 : cX1_numberAt.data.toList.drop 47 = dktX1_numberAt_2 := dk_seg dksX1_numberAt_1 24 rfl rfl
theorem dksX1_numberAt_3 : cX1_numberAt.data.toList.drop 71 = dktX1_numberAt_3 := dk_seg dksX1_numberAt_2 24 rfl rfl
theorem dksX1_numberAt_4 : cX1_numberAt.data.toList.drop 93 = dktX1_numberAt_4 := dk_seg dksX1_numberAt_3 22 rfl rfl
theorem dksX1_numberAt_5 : cX1_numberAt.data.toList.drop 117 = dktX1_numberAt_5 := dk_seg dksX1_numberAt_4 24 rfl rfl
theorem dX1_numberAt_0 : decode cX1_numberAt 0 = .ok (.iload_n 1, 1) := dk_27 (dk_at dksX1_numberAt_0 0 rfl rfl)
theorem dX1_numberAt_1 : decode cX1_numberAt 1 = .ok (.aload_n 0, 1) := dk_42 (dk_at dksX1_numberAt_0 1 rfl rfl)
theorem dX1_numberAt_2 : decode cX1_numberAt 2 = .ok (.getfield 16, 3) := dk_180 0 16 (dk_at dksX1_numberAt_0 2 rfl rfl)
theorem dX1_numberAt_5 : decode cX1_numberAt 5 = .ok (.getfield 110, 3) := dk_180 0 110 (dk_at dksX1_numberAt_0 5 rfl rfl)
theorem dX1_numberAt_8 : decode cX1_numberAt 8 = .ok (.if_icmp .ne 15, 3) := dk_160 0 15 (dk_at dksX1_numberAt_0 8 rfl rfl)
theorem dX1_numberAt_11 : decode cX1_numberAt 11 = .ok (.aload_n 0, 1) := dk_42 (dk_at dksX1_numberAt_0 11 rfl rfl)
theorem dX1_numberAt_12 : decode cX1_numberAt 12 = .ok (.getfield 50, 3) := dk_180 0 50 (dk_at dksX1_numberAt_0 12 rfl rfl)
theorem dX1_numberAt_15 : decode cX1_numberAt 15 = .ok (.bipush 8, 2) := dk_16 8 (dk_at dksX1_numberAt_0 15 rfl rfl)
theorem dX1_numberAt_17 : decode cX1_numberAt 17 = .ok (.iload_n 2, 1) := dk_28 (dk_at dksX1_numberAt_0 17 rfl rfl)
theorem dX1_numberAt_18 : decode cX1_numberAt 18 = .ok (.imul, 1) := dk_104 (dk_at dksX1_numberAt_0 18 rfl rfl)
theorem dX1_numberAt_19 : decode cX1_numberAt 19 = .ok (.iload_n 3, 1) := dk_29 (dk_at dksX1_numberAt_0 19 rfl rfl)
theorem dX1_numberAt_20 : decode cX1_numberAt 20 = .ok (.iadd, 1) := dk_96 (dk_at dksX1_numberAt_0 20 rfl rfl)
theorem dX1_numberAt_21 : decode cX1_numberAt 21 = .ok (.iaload, 1) := dk_46 (dk_at dksX1_numberAt_0 21 rfl rfl)
theorem dX1_numberAt_22 : decode cX1_numberAt 22 = .ok (.ireturn, 1) := dk_172 (dk_at dksX1_numberAt_0 22 rfl rfl)
theorem dX1_numberAt_23 : decode cX1_numberAt 23 = .ok (.bipush 8, 2) := dk_16 8 (dk_at dksX1_numberAt_1 0 rfl rfl)
theorem dX1_numberAt_25 : decode cX1_numberAt 25 = .ok (.iload_n 1, 1) := dk_27 (dk_at dksX1_numberAt_1 2 rfl rfl)
theorem dX1_numberAt_26 : decode cX1_numberAt 26 = .ok (.iconst 1, 1) := dk_4 (dk_at dksX1_numberAt_1 3 rfl rfl)
theorem dX1_numberAt_27 : decode cX1_numberAt 27 = .ok (.iadd, 1) := dk_96 (dk_at dksX1_numberAt_1 4 rfl rfl)
theorem dX1_numberAt_28 : decode cX1_numberAt 28 = .ok (.ishr, 1) := dk_122 (dk_at dksX1_numberAt_1 5 rfl rfl)
theorem dX1_numberAt_29 : decode cX1_numberAt 29 = .ok (.istore 4, 2) := dk_54 4 (dk_at dksX1_numberAt_1 6 rfl rfl)
theorem dX1_numberAt_31 : decode cX1_numberAt 31 = .ok (.iload_n 2, 1) := dk_28 (dk_at dksX1_numberAt_1 8 rfl rfl)
theorem dX1_numberAt_32 : decode cX1_numberAt 32 = .ok (.iconst 2, 1) := dk_5 (dk_at dksX1_numberAt_1 9 rfl rfl)
theorem dX1_numberAt_33 : decode cX1_numberAt 33 = .ok (.idiv, 1) := dk_108 (dk_at dksX1_numberAt_1 10 rfl rfl)
theorem dX1_numberAt_34 : decode cX1_numberAt 34 = .ok (.istore 5, 2) := dk_54 5 (dk_at dksX1_numberAt_1 11 rfl rfl)
theorem dX1_numberAt_36 : decode cX1_numberAt 36 = .ok (.iload_n 3, 1) := dk_29 (dk_at dksX1_numberAt_1 13 rfl rfl)
theorem dX1_numberAt_37 : decode cX1_numberAt 37 = .ok (.iconst 2, 1) := dk_5 (dk_at dksX1_numberAt_1 14 rfl rfl)
theorem dX1_numberAt_38 : decode cX1_numberAt 38 = .ok (.idiv, 1) := dk_108 (dk_at dksX1_numberAt_1 15 rfl rfl)
theorem dX1_numberAt_39 : decode cX1_numberAt 39 = .ok (.istore 6, 2) := dk_54 6 (dk_at dksX1_numberAt_1 16 rfl rfl)
theorem dX1_numberAt_41 : decode cX1_numberAt 41 = .ok (.aload_n 0, 1) := dk_42 (dk_at dksX1_numberAt_1 18 rfl rfl)
theorem dX1_numberAt_42 : decode cX1_numberAt 42 = .ok (.iload_n 1, 1) := dk_27 (dk_at dksX1_numberAt_1 19 rfl rfl)
theorem dX1_numberAt_43 : decode cX1_numberAt 43 = .ok (.iconst 1, 1) := dk_4 (dk_at dksX1_numberAt_1 20 rfl rfl)
theorem dX1_numberAt_44 : decode cX1_numberAt 44 = .ok (.iadd, 1) := dk_96 (dk_at dksX1_numberAt_1 21 rfl rfl)
theorem dX1_numberAt_45 : decode cX1_numberAt 45 = .ok (.iload 5, 2) := dk_21 5 (dk_at dksX1_numberAt_1 22 rfl rfl)
theorem dX1_numberAt_47 : decode cX1_numberAt 47 = .ok (.iload 6, 2) := dk_21 6 (dk_at dksX1_numberAt_2 0 rfl rfl)
theorem dX1_numberAt_49 : decode cX1_numberAt 49 = .ok (.invokevirtual 259, 3) := dk_182 1 3 (dk_at dksX1_numberAt_2 2 rfl rfl)
theorem dX1_numberAt_52 : decode cX1_numberAt 52 = .ok (.aload_n 0, 1) := dk_42 (dk_at dksX1_numberAt_2 5 rfl rfl)
theorem dX1_numberAt_53 : decode cX1_numberAt 53 = .ok (.getfield 50, 3) := dk_180 0 50 (dk_at dksX1_numberAt_2 6 rfl rfl)
theorem dX1_numberAt_56 : decode cX1_numberAt 56 = .ok (.bipush 8, 2) := dk_16 8 (dk_at dksX1_numberAt_2 9 rfl rfl)
theorem dX1_numberAt_58 : decode cX1_numberAt 58 = .ok (.iload 4, 2) := dk_21 4 (dk_at dksX1_numberAt_2 11 rfl rfl)
theorem dX1_numberAt_60 : decode cX1_numberAt 60 = .ok (.iload 5, 2) := dk_21 5 (dk_at dksX1_numberAt_2 13 rfl rfl)
theorem dX1_numberAt_62 : decode cX1_numberAt 62 = .ok (.iadd, 1) := dk_96 (dk_at dksX1_numberAt_2 15 rfl rfl)
theorem dX1_numberAt_63 : decode cX1_numberAt 63 = .ok (.imul, 1) := dk_104 (dk_at dksX1_numberAt_2 16 rfl rfl)
theorem dX1_numberAt_64 : decode cX1_numberAt 64 = .ok (.iload 6, 2) := dk_21 6 (dk_at dksX1_numberAt_2 17 rfl rfl)
theorem dX1_numberAt_66 : decode cX1_numberAt 66 = .ok (.iadd, 1) := dk_96 (dk_at dksX1_numberAt_2 19 rfl rfl)
theorem dX1_numberAt_67 : decode cX1_numberAt 67 = .ok (.iaload, 1) := dk_46 (dk_at dksX1_numberAt_2 20 rfl rfl)
theorem dX1_numberAt_68 : decode cX1_numberAt 68 = .ok (.iload_n 2, 1) := dk_28 (dk_at dksX1_numberAt_2 21 rfl rfl)
theorem dX1_numberAt_69 : decode cX1_numberAt 69 = .ok (.iconst 2, 1) := dk_5 (dk_at dksX1_numberAt_2 22 rfl rfl)
theorem dX1_numberAt_70 : decode cX1_numberAt 70 = .ok (.irem, 1) := dk_112 (dk_at dksX1_numberAt_2 23 rfl rfl)
theorem dX1_numberAt_71 : decode cX1_numberAt 71 = .ok (.invokestatic 262, 3) := dk_184 1 6 (dk_at dksX1_numberAt_3 0 rfl rfl)
theorem dX1_numberAt_74 : decode cX1_numberAt 74 = .ok (.istore 7, 2) := dk_54 7 (dk_at dksX1_numberAt_3 3 rfl rfl)
theorem dX1_numberAt_76 : decode cX1_numberAt 76 = .ok (.aload_n 0, 1) := dk_42 (dk_at dksX1_numberAt_3 5 rfl rfl)
theorem dX1_numberAt_77 : decode cX1_numberAt 77 = .ok (.getfield 50, 3) := dk_180 0 50 (dk_at dksX1_numberAt_3 6 rfl rfl)
theorem dX1_numberAt_80 : decode cX1_numberAt 80 = .ok (.bipush 8, 2) := dk_16 8 (dk_at dksX1_numberAt_3 9 rfl rfl)
theorem dX1_numberAt_82 : decode cX1_numberAt 82 = .ok (.iload 5, 2) := dk_21 5 (dk_at dksX1_numberAt_3 11 rfl rfl)
theorem dX1_numberAt_84 : decode cX1_numberAt 84 = .ok (.imul, 1) := dk_104 (dk_at dksX1_numberAt_3 13 rfl rfl)
theorem dX1_numberAt_85 : decode cX1_numberAt 85 = .ok (.iload 4, 2) := dk_21 4 (dk_at dksX1_numberAt_3 14 rfl rfl)
theorem dX1_numberAt_87 : decode cX1_numberAt 87 = .ok (.iadd, 1) := dk_96 (dk_at dksX1_numberAt_3 16 rfl rfl)
theorem dX1_numberAt_88 : decode cX1_numberAt 88 = .ok (.iload 6, 2) := dk_21 6 (dk_at dksX1_numberAt_3 17 rfl rfl)
theorem dX1_numberAt_90 : decode cX1_numberAt 90 = .ok (.iadd, 1) := dk_96 (dk_at dksX1_numberAt_3 19 rfl rfl)
theorem dX1_numberAt_91 : decode cX1_numberAt 91 = .ok (.iaload, 1) := dk_46 (dk_at dksX1_numberAt_3 20 rfl rfl)
theorem dX1_numberAt_92 : decode cX1_numberAt 92 = .ok (.aload_n 0, 1) := dk_42 (dk_at dksX1_numberAt_3 21 rfl rfl)
theorem dX1_numberAt_93 : decode cX1_numberAt 93 = .ok (.getfield 50, 3) := dk_180 0 50 (dk_at dksX1_numberAt_4 0 rfl rfl)
theorem dX1_numberAt_96 : decode cX1_numberAt 96 = .ok (.bipush 8, 2) := dk_16 8 (dk_at dksX1_numberAt_4 3 rfl rfl)
theorem dX1_numberAt_98 : decode cX1_numberAt 98 = .ok (.iload 4, 2) := dk_21 4 (dk_at dksX1_numberAt_4 5 rfl rfl)
theorem dX1_numberAt_100 : decode cX1_numberAt 100 = .ok (.iload 5, 2) := dk_21 5 (dk_at dksX1_numberAt_4 7 rfl rfl)
theorem dX1_numberAt_102 : decode cX1_numberAt 102 = .ok (.iadd, 1) := dk_96 (dk_at dksX1_numberAt_4 9 rfl rfl)
theorem dX1_numberAt_103 : decode cX1_numberAt 103 = .ok (.imul, 1) := dk_104 (dk_at dksX1_numberAt_4 10 rfl rfl)
theorem dX1_numberAt_104 : decode cX1_numberAt 104 = .ok (.iload 4, 2) := dk_21 4 (dk_at dksX1_numberAt_4 11 rfl rfl)
theorem dX1_numberAt_106 : decode cX1_numberAt 106 = .ok (.iadd, 1) := dk_96 (dk_at dksX1_numberAt_4 13 rfl rfl)
theorem dX1_numberAt_107 : decode cX1_numberAt 107 = .ok (.iload 6, 2) := dk_21 6 (dk_at dksX1_numberAt_4 14 rfl rfl)
theorem dX1_numberAt_109 : decode cX1_numberAt 109 = .ok (.iadd, 1) := dk_96 (dk_at dksX1_numberAt_4 16 rfl rfl)
theorem dX1_numberAt_110 : decode cX1_numberAt 110 = .ok (.iaload, 1) := dk_46 (dk_at dksX1_numberAt_4 17 rfl rfl)
theorem dX1_numberAt_111 : decode cX1_numberAt 111 = .ok (.iload_n 2, 1) := dk_28 (dk_at dksX1_numberAt_4 18 rfl rfl)
theorem dX1_numberAt_112 : decode cX1_numberAt 112 = .ok (.iconst 2, 1) := dk_5 (dk_at dksX1_numberAt_4 19 rfl rfl)
theorem dX1_numberAt_113 : decode cX1_numberAt 113 = .ok (.irem, 1) := dk_112 (dk_at dksX1_numberAt_4 20 rfl rfl)
theorem dX1_numberAt_114 : decode cX1_numberAt 114 = .ok (.invokestatic 262, 3) := dk_184 1 6 (dk_at dksX1_numberAt_4 21 rfl rfl)
theorem dX1_numberAt_117 : decode cX1_numberAt 117 = .ok (.istore 8, 2) := dk_54 8 (dk_at dksX1_numberAt_5 0 rfl rfl)
theorem dX1_numberAt_119 : decode cX1_numberAt 119 = .ok (.iload 7, 2) := dk_21 7 (dk_at dksX1_numberAt_5 2 rfl rfl)
theorem dX1_numberAt_121 : decode cX1_numberAt 121 = .ok (.iload 8, 2) := dk_21 8 (dk_at dksX1_numberAt_5 4 rfl rfl)
theorem dX1_numberAt_123 : decode cX1_numberAt 123 = .ok (.iload_n 3, 1) := dk_29 (dk_at dksX1_numberAt_5 6 rfl rfl)
theorem dX1_numberAt_124 : decode cX1_numberAt 124 = .ok (.iconst 2, 1) := dk_5 (dk_at dksX1_numberAt_5 7 rfl rfl)
theorem dX1_numberAt_125 : decode cX1_numberAt 125 = .ok (.irem, 1) := dk_112 (dk_at dksX1_numberAt_5 8 rfl rfl)
theorem dX1_numberAt_126 : decode cX1_numberAt 126 = .ok (.invokestatic 262, 3) := dk_184 1 6 (dk_at dksX1_numberAt_5 9 rfl rfl)
theorem dX1_numberAt_129 : decode cX1_numberAt 129 = .ok (.ireturn, 1) := dk_172 (dk_at dksX1_numberAt_5 12 rfl rfl)
abbrev cX1_energyTold : ByteArray := prog_1_method_47_code
def yX1_energyTold : MethodName := ⟨RX1, "energyTold", "(I)I"⟩
def dkwX1_energyTold_2 : List UInt8 := [96, 62, 132, 4, 1, 167, 255, 216, 29, 172]
abbrev dktX1_energyTold_2 : List UInt8 := dkwX1_energyTold_2 ++ []
def dkwX1_energyTold_1 : List UInt8 := [46, 27, 160, 0, 21, 42, 180, 0, 50, 21, 4, 46, 42, 180, 0, 50, 21, 4, 46, 104, 167, 0, 4, 3]
abbrev dktX1_energyTold_1 : List UInt8 := dkwX1_energyTold_1 ++ dktX1_energyTold_2
def dkwX1_energyTold_0 : List UInt8 := [42, 182, 0, 161, 180, 0, 165, 77, 3, 62, 3, 54, 4, 21, 4, 16, 64, 162, 0, 39, 29, 44, 21, 4]
abbrev dktX1_energyTold_0 : List UInt8 := dkwX1_energyTold_0 ++ dktX1_energyTold_1
theorem dksX1_energyTold_0 : cX1_energyTold.data.toList.drop 0 = dktX1_energyTold_0 := by decide +kernel
theorem dksX1_energyTold_1 : cX1_energyTold.data.toList.drop 24 = dktX1_energyTold_1 := dk_seg dksX1_energyTold_0 24 rfl rfl
theorem dksX1_energyTold_2 : cX1_energyTold.data.toList.drop 48 = dktX1_energyTold_2 := dk_seg dksX1_energyTold_1 24 rfl rfl
theorem dX1_energyTold_0 : decode cX1_energyTold 0 = .ok (.aload_n 0, 1) := dk_42 (dk_at dksX1_energyTold_0 0 rfl rfl)
theorem dX1_energyTold_1 : decode cX1_energyTold 1 = .ok (.invokevirtual 161, 3) := dk_182 0 161 (dk_at dksX1_energyTold_0 1 rfl rfl)
theorem dX1_energyTold_4 : decode cX1_energyTold 4 = .ok (.getfield 165, 3) := dk_180 0 165 (dk_at dksX1_energyTold_0 4 rfl rfl)
theorem dX1_energyTold_7 : decode cX1_energyTold 7 = .ok (.astore_n 2, 1) := dk_77 (dk_at dksX1_energyTold_0 7 rfl rfl)
theorem dX1_energyTold_8 : decode cX1_energyTold 8 = .ok (.iconst 0, 1) := dk_3 (dk_at dksX1_energyTold_0 8 rfl rfl)
theorem dX1_energyTold_9 : decode cX1_energyTold 9 = .ok (.istore_n 3, 1) := dk_62 (dk_at dksX1_energyTold_0 9 rfl rfl)
theorem dX1_energyTold_10 : decode cX1_energyTold 10 = .ok (.iconst 0, 1) := dk_3 (dk_at dksX1_energyTold_0 10 rfl rfl)
theorem dX1_energyTold_11 : decode cX1_energyTold 11 = .ok (.istore 4, 2) := dk_54 4 (dk_at dksX1_energyTold_0 11 rfl rfl)
theorem dX1_energyTold_13 : decode cX1_energyTold 13 = .ok (.iload 4, 2) := dk_21 4 (dk_at dksX1_energyTold_0 13 rfl rfl)
theorem dX1_energyTold_15 : decode cX1_energyTold 15 = .ok (.bipush 64, 2) := dk_16 64 (dk_at dksX1_energyTold_0 15 rfl rfl)
theorem dX1_energyTold_17 : decode cX1_energyTold 17 = .ok (.if_icmp .ge 39, 3) := dk_162 0 39 (dk_at dksX1_energyTold_0 17 rfl rfl)
theorem dX1_energyTold_20 : decode cX1_energyTold 20 = .ok (.iload_n 3, 1) := dk_29 (dk_at dksX1_energyTold_0 20 rfl rfl)
theorem dX1_energyTold_21 : decode cX1_energyTold 21 = .ok (.aload_n 2, 1) := dk_44 (dk_at dksX1_energyTold_0 21 rfl rfl)
theorem dX1_energyTold_22 : decode cX1_energyTold 22 = .ok (.iload 4, 2) := dk_21 4 (dk_at dksX1_energyTold_0 22 rfl rfl)
theorem dX1_energyTold_24 : decode cX1_energyTold 24 = .ok (.iaload, 1) := dk_46 (dk_at dksX1_energyTold_1 0 rfl rfl)
theorem dX1_energyTold_25 : decode cX1_energyTold 25 = .ok (.iload_n 1, 1) := dk_27 (dk_at dksX1_energyTold_1 1 rfl rfl)
theorem dX1_energyTold_26 : decode cX1_energyTold 26 = .ok (.if_icmp .ne 21, 3) := dk_160 0 21 (dk_at dksX1_energyTold_1 2 rfl rfl)
theorem dX1_energyTold_29 : decode cX1_energyTold 29 = .ok (.aload_n 0, 1) := dk_42 (dk_at dksX1_energyTold_1 5 rfl rfl)
theorem dX1_energyTold_30 : decode cX1_energyTold 30 = .ok (.getfield 50, 3) := dk_180 0 50 (dk_at dksX1_energyTold_1 6 rfl rfl)
theorem dX1_energyTold_33 : decode cX1_energyTold 33 = .ok (.iload 4, 2) := dk_21 4 (dk_at dksX1_energyTold_1 9 rfl rfl)
theorem dX1_energyTold_35 : decode cX1_energyTold 35 = .ok (.iaload, 1) := dk_46 (dk_at dksX1_energyTold_1 11 rfl rfl)
theorem dX1_energyTold_36 : decode cX1_energyTold 36 = .ok (.aload_n 0, 1) := dk_42 (dk_at dksX1_energyTold_1 12 rfl rfl)
theorem dX1_energyTold_37 : decode cX1_energyTold 37 = .ok (.getfield 50, 3) := dk_180 0 50 (dk_at dksX1_energyTold_1 13 rfl rfl)
theorem dX1_energyTold_40 : decode cX1_energyTold 40 = .ok (.iload 4, 2) := dk_21 4 (dk_at dksX1_energyTold_1 16 rfl rfl)
theorem dX1_energyTold_42 : decode cX1_energyTold 42 = .ok (.iaload, 1) := dk_46 (dk_at dksX1_energyTold_1 18 rfl rfl)
theorem dX1_energyTold_43 : decode cX1_energyTold 43 = .ok (.imul, 1) := dk_104 (dk_at dksX1_energyTold_1 19 rfl rfl)
theorem dX1_energyTold_44 : decode cX1_energyTold 44 = .ok (.goto 4, 3) := dk_167 0 4 (dk_at dksX1_energyTold_1 20 rfl rfl)
theorem dX1_energyTold_47 : decode cX1_energyTold 47 = .ok (.iconst 0, 1) := dk_3 (dk_at dksX1_energyTold_1 23 rfl rfl)
theorem dX1_energyTold_48 : decode cX1_energyTold 48 = .ok (.iadd, 1) := dk_96 (dk_at dksX1_energyTold_2 0 rfl rfl)
theorem dX1_energyTold_49 : decode cX1_energyTold 49 = .ok (.istore_n 3, 1) := dk_62 (dk_at dksX1_energyTold_2 1 rfl rfl)
theorem dX1_energyTold_50 : decode cX1_energyTold 50 = .ok (.iinc 4 1, 3) := dk_132 4 1 (dk_at dksX1_energyTold_2 2 rfl rfl)
theorem dX1_energyTold_53 : decode cX1_energyTold 53 = .ok (.goto (-40), 3) := dk_167 255 216 (dk_at dksX1_energyTold_2 5 rfl rfl)
theorem dX1_energyTold_56 : decode cX1_energyTold 56 = .ok (.iload_n 3, 1) := dk_29 (dk_at dksX1_energyTold_2 8 rfl rfl)
theorem dX1_energyTold_57 : decode cX1_energyTold 57 = .ok (.ireturn, 1) := dk_172 (dk_at dksX1_energyTold_2 9 rfl rfl)
abbrev cX1_mixThresholds : ByteArray := prog_1_method_82_code
def yX1_mixThresholds : MethodName := ⟨RX1, "mixThresholds", "()V"⟩
def dkwX1_mixThresholds_6 : List UInt8 := [182, 1, 18, 133, 182, 1, 89, 177]
abbrev dktX1_mixThresholds_6 : List UInt8 := dkwX1_mixThresholds_6 ++ []
def dkwX1_mixThresholds_5 : List UInt8 := [132, 1, 1, 167, 255, 237, 42, 42, 16, 100, 182, 1, 18, 133, 182, 1, 89, 42, 42, 17, 3, 232]
abbrev dktX1_mixThresholds_5 : List UInt8 := dkwX1_mixThresholds_5 ++ dktX1_mixThresholds_6
def dkwX1_mixThresholds_4 : List UInt8 := [132, 3, 1, 167, 255, 171, 3, 60, 27, 16, 7, 163, 0, 19, 42, 42, 27, 182, 1, 21, 133, 182, 1, 89]
abbrev dktX1_mixThresholds_4 : List UInt8 := dkwX1_mixThresholds_4 ++ dktX1_mixThresholds_5
def dkwX1_mixThresholds_3 : List UInt8 := [21, 4, 182, 1, 28, 182, 1, 35, 133, 182, 1, 89, 42, 42, 21, 4, 182, 1, 74, 133, 182, 1, 89]
abbrev dktX1_mixThresholds_3 : List UInt8 := dkwX1_mixThresholds_3 ++ dktX1_mixThresholds_4
def dkwX1_mixThresholds_2 : List UInt8 := [182, 1, 15, 133, 182, 1, 89, 42, 42, 21, 4, 182, 1, 28, 182, 1, 32, 133, 182, 1, 89, 42, 42]
abbrev dktX1_mixThresholds_2 : List UInt8 := dkwX1_mixThresholds_2 ++ dktX1_mixThresholds_3
def dkwX1_mixThresholds_1 : List UInt8 := [182, 0, 183, 133, 182, 1, 89, 42, 42, 21, 4, 182, 1, 12, 133, 182, 1, 89, 42, 42, 21, 4]
abbrev dktX1_mixThresholds_1 : List UInt8 := dkwX1_mixThresholds_1 ++ dktX1_mixThresholds_2
def dkwX1_mixThresholds_0 : List UInt8 := [178, 1, 93, 76, 43, 190, 61, 3, 62, 29, 28, 162, 0, 86, 43, 29, 46, 54, 4, 42, 42, 21, 4]
abbrev dktX1_mixThresholds_0 : List UInt8 := dkwX1_mixThresholds_0 ++ dktX1_mixThresholds_1
theorem dksX1_mixThresholds_0 : cX1_mixThresholds.data.toList.drop 0 = dktX1_mixThresholds_0 := by decide +kernel
theorem dksX1_mixThresholds_1 : cX1_mixThresholds.data.toList.drop 23 = dktX1_mixThresholds_1 := dk_seg dksX1_mixThresholds_0 23 rfl rfl
theorem dksX1_mixThresholds_2 : cX1_mixThresholds.data.toList.drop 45 = dktX1_mixThresholds_2 := dk_seg dksX1_mixThresholds_1 22 rfl rfl
theorem dksX1_mixThresholds_3 : cX1_mixThresholds.data.toList.drop 68 = dktX1_mixThresholds_3 := dk_seg dksX1_mixThresholds_2 23 rfl rfl
theorem dksX1_mixThresholds_4 : cX1_mixThresholds.data.toList.drop 91 = dktX1_mixThresholds_4 := dk_seg dksX1_mixThresholds_3 23 rfl rfl
theorem dksX1_mixThresholds_5 : cX1_mixThresholds.data.toList.drop 115 = dktX1_mixThresholds_5 := dk_seg dksX1_mixThresholds_4 24 rfl rfl
theorem dksX1_mixThresholds_6 : cX1_mixThresholds.data.toList.drop 137 = dktX1_mixThresholds_6 := dk_seg dksX1_mixThresholds_5 22 rfl rfl
theorem dX1_mixThresholds_0 : decode cX1_mixThresholds 0 = .ok (.getstatic 349, 3) := dk_178 1 93 (dk_at dksX1_mixThresholds_0 0 rfl rfl)
theorem dX1_mixThresholds_3 : decode cX1_mixThresholds 3 = .ok (.astore_n 1, 1) := dk_76 (dk_at dksX1_mixThresholds_0 3 rfl rfl)
theorem dX1_mixThresholds_4 : decode cX1_mixThresholds 4 = .ok (.aload_n 1, 1) := dk_43 (dk_at dksX1_mixThresholds_0 4 rfl rfl)
theorem dX1_mixThresholds_5 : decode cX1_mixThresholds 5 = .ok (.arraylength, 1) := dk_190 (dk_at dksX1_mixThresholds_0 5 rfl rfl)
theorem dX1_mixThresholds_6 : decode cX1_mixThresholds 6 = .ok (.istore_n 2, 1) := dk_61 (dk_at dksX1_mixThresholds_0 6 rfl rfl)
theorem dX1_mixThresholds_7 : decode cX1_mixThresholds 7 = .ok (.iconst 0, 1) := dk_3 (dk_at dksX1_mixThresholds_0 7 rfl rfl)
theorem dX1_mixThresholds_8 : decode cX1_mixThresholds 8 = .ok (.istore_n 3, 1) := dk_62 (dk_at dksX1_mixThresholds_0 8 rfl rfl)
theorem dX1_mixThresholds_9 : decode cX1_mixThresholds 9 = .ok (.iload_n 3, 1) := dk_29 (dk_at dksX1_mixThresholds_0 9 rfl rfl)
theorem dX1_mixThresholds_10 : decode cX1_mixThresholds 10 = .ok (.iload_n 2, 1) := dk_28 (dk_at dksX1_mixThresholds_0 10 rfl rfl)
theorem dX1_mixThresholds_11 : decode cX1_mixThresholds 11 = .ok (.if_icmp .ge 86, 3) := dk_162 0 86 (dk_at dksX1_mixThresholds_0 11 rfl rfl)
theorem dX1_mixThresholds_14 : decode cX1_mixThresholds 14 = .ok (.aload_n 1, 1) := dk_43 (dk_at dksX1_mixThresholds_0 14 rfl rfl)
theorem dX1_mixThresholds_15 : decode cX1_mixThresholds 15 = .ok (.iload_n 3, 1) := dk_29 (dk_at dksX1_mixThresholds_0 15 rfl rfl)
theorem dX1_mixThresholds_16 : decode cX1_mixThresholds 16 = .ok (.iaload, 1) := dk_46 (dk_at dksX1_mixThresholds_0 16 rfl rfl)
theorem dX1_mixThresholds_17 : decode cX1_mixThresholds 17 = .ok (.istore 4, 2) := dk_54 4 (dk_at dksX1_mixThresholds_0 17 rfl rfl)
theorem dX1_mixThresholds_19 : decode cX1_mixThresholds 19 = .ok (.aload_n 0, 1) := dk_42 (dk_at dksX1_mixThresholds_0 19 rfl rfl)
theorem dX1_mixThresholds_20 : decode cX1_mixThresholds 20 = .ok (.aload_n 0, 1) := dk_42 (dk_at dksX1_mixThresholds_0 20 rfl rfl)
theorem dX1_mixThresholds_21 : decode cX1_mixThresholds 21 = .ok (.iload 4, 2) := dk_21 4 (dk_at dksX1_mixThresholds_0 21 rfl rfl)
theorem dX1_mixThresholds_23 : decode cX1_mixThresholds 23 = .ok (.invokevirtual 183, 3) := dk_182 0 183 (dk_at dksX1_mixThresholds_1 0 rfl rfl)
theorem dX1_mixThresholds_26 : decode cX1_mixThresholds 26 = .ok (.i2l, 1) := dk_133 (dk_at dksX1_mixThresholds_1 3 rfl rfl)
theorem dX1_mixThresholds_27 : decode cX1_mixThresholds 27 = .ok (.invokevirtual 345, 3) := dk_182 1 89 (dk_at dksX1_mixThresholds_1 4 rfl rfl)
theorem dX1_mixThresholds_30 : decode cX1_mixThresholds 30 = .ok (.aload_n 0, 1) := dk_42 (dk_at dksX1_mixThresholds_1 7 rfl rfl)
theorem dX1_mixThresholds_31 : decode cX1_mixThresholds 31 = .ok (.aload_n 0, 1) := dk_42 (dk_at dksX1_mixThresholds_1 8 rfl rfl)
theorem dX1_mixThresholds_32 : decode cX1_mixThresholds 32 = .ok (.iload 4, 2) := dk_21 4 (dk_at dksX1_mixThresholds_1 9 rfl rfl)
theorem dX1_mixThresholds_34 : decode cX1_mixThresholds 34 = .ok (.invokevirtual 268, 3) := dk_182 1 12 (dk_at dksX1_mixThresholds_1 11 rfl rfl)
theorem dX1_mixThresholds_37 : decode cX1_mixThresholds 37 = .ok (.i2l, 1) := dk_133 (dk_at dksX1_mixThresholds_1 14 rfl rfl)
theorem dX1_mixThresholds_38 : decode cX1_mixThresholds 38 = .ok (.invokevirtual 345, 3) := dk_182 1 89 (dk_at dksX1_mixThresholds_1 15 rfl rfl)
theorem dX1_mixThresholds_41 : decode cX1_mixThresholds 41 = .ok (.aload_n 0, 1) := dk_42 (dk_at dksX1_mixThresholds_1 18 rfl rfl)
theorem dX1_mixThresholds_42 : decode cX1_mixThresholds 42 = .ok (.aload_n 0, 1) := dk_42 (dk_at dksX1_mixThresholds_1 19 rfl rfl)
theorem dX1_mixThresholds_43 : decode cX1_mixThresholds 43 = .ok (.iload 4, 2) := dk_21 4 (dk_at dksX1_mixThresholds_1 20 rfl rfl)
theorem dX1_mixThresholds_45 : decode cX1_mixThresholds 45 = .ok (.invokevirtual 271, 3) := dk_182 1 15 (dk_at dksX1_mixThresholds_2 0 rfl rfl)
theorem dX1_mixThresholds_48 : decode cX1_mixThresholds 48 = .ok (.i2l, 1) := dk_133 (dk_at dksX1_mixThresholds_2 3 rfl rfl)
theorem dX1_mixThresholds_49 : decode cX1_mixThresholds 49 = .ok (.invokevirtual 345, 3) := dk_182 1 89 (dk_at dksX1_mixThresholds_2 4 rfl rfl)
theorem dX1_mixThresholds_52 : decode cX1_mixThresholds 52 = .ok (.aload_n 0, 1) := dk_42 (dk_at dksX1_mixThresholds_2 7 rfl rfl)
theorem dX1_mixThresholds_53 : decode cX1_mixThresholds 53 = .ok (.aload_n 0, 1) := dk_42 (dk_at dksX1_mixThresholds_2 8 rfl rfl)
theorem dX1_mixThresholds_54 : decode cX1_mixThresholds 54 = .ok (.iload 4, 2) := dk_21 4 (dk_at dksX1_mixThresholds_2 9 rfl rfl)
theorem dX1_mixThresholds_56 : decode cX1_mixThresholds 56 = .ok (.invokevirtual 284, 3) := dk_182 1 28 (dk_at dksX1_mixThresholds_2 11 rfl rfl)
theorem dX1_mixThresholds_59 : decode cX1_mixThresholds 59 = .ok (.invokevirtual 288, 3) := dk_182 1 32 (dk_at dksX1_mixThresholds_2 14 rfl rfl)
theorem dX1_mixThresholds_62 : decode cX1_mixThresholds 62 = .ok (.i2l, 1) := dk_133 (dk_at dksX1_mixThresholds_2 17 rfl rfl)
theorem dX1_mixThresholds_63 : decode cX1_mixThresholds 63 = .ok (.invokevirtual 345, 3) := dk_182 1 89 (dk_at dksX1_mixThresholds_2 18 rfl rfl)
theorem dX1_mixThresholds_66 : decode cX1_mixThresholds 66 = .ok (.aload_n 0, 1) := dk_42 (dk_at dksX1_mixThresholds_2 21 rfl rfl)
theorem dX1_mixThresholds_67 : decode cX1_mixThresholds 67 = .ok (.aload_n 0, 1) := dk_42 (dk_at dksX1_mixThresholds_2 22 rfl rfl)
theorem dX1_mixThresholds_68 : decode cX1_mixThresholds 68 = .ok (.iload 4, 2) := dk_21 4 (dk_at dksX1_mixThresholds_3 0 rfl rfl)
theorem dX1_mixThresholds_70 : decode cX1_mixThresholds 70 = .ok (.invokevirtual 284, 3) := dk_182 1 28 (dk_at dksX1_mixThresholds_3 2 rfl rfl)
theorem dX1_mixThresholds_73 : decode cX1_mixThresholds 73 = .ok (.invokevirtual 291, 3) := dk_182 1 35 (dk_at dksX1_mixThresholds_3 5 rfl rfl)
theorem dX1_mixThresholds_76 : decode cX1_mixThresholds 76 = .ok (.i2l, 1) := dk_133 (dk_at dksX1_mixThresholds_3 8 rfl rfl)
theorem dX1_mixThresholds_77 : decode cX1_mixThresholds 77 = .ok (.invokevirtual 345, 3) := dk_182 1 89 (dk_at dksX1_mixThresholds_3 9 rfl rfl)
theorem dX1_mixThresholds_80 : decode cX1_mixThresholds 80 = .ok (.aload_n 0, 1) := dk_42 (dk_at dksX1_mixThresholds_3 12 rfl rfl)
theorem dX1_mixThresholds_81 : decode cX1_mixThresholds 81 = .ok (.aload_n 0, 1) := dk_42 (dk_at dksX1_mixThresholds_3 13 rfl rfl)
theorem dX1_mixThresholds_82 : decode cX1_mixThresholds 82 = .ok (.iload 4, 2) := dk_21 4 (dk_at dksX1_mixThresholds_3 14 rfl rfl)
theorem dX1_mixThresholds_84 : decode cX1_mixThresholds 84 = .ok (.invokevirtual 330, 3) := dk_182 1 74 (dk_at dksX1_mixThresholds_3 16 rfl rfl)
theorem dX1_mixThresholds_87 : decode cX1_mixThresholds 87 = .ok (.i2l, 1) := dk_133 (dk_at dksX1_mixThresholds_3 19 rfl rfl)
theorem dX1_mixThresholds_88 : decode cX1_mixThresholds 88 = .ok (.invokevirtual 345, 3) := dk_182 1 89 (dk_at dksX1_mixThresholds_3 20 rfl rfl)
theorem dX1_mixThresholds_91 : decode cX1_mixThresholds 91 = .ok (.iinc 3 1, 3) := dk_132 3 1 (dk_at dksX1_mixThresholds_4 0 rfl rfl)
theorem dX1_mixThresholds_94 : decode cX1_mixThresholds 94 = .ok (.goto (-85), 3) := dk_167 255 171 (dk_at dksX1_mixThresholds_4 3 rfl rfl)
theorem dX1_mixThresholds_97 : decode cX1_mixThresholds 97 = .ok (.iconst 0, 1) := dk_3 (dk_at dksX1_mixThresholds_4 6 rfl rfl)
theorem dX1_mixThresholds_98 : decode cX1_mixThresholds 98 = .ok (.istore_n 1, 1) := dk_60 (dk_at dksX1_mixThresholds_4 7 rfl rfl)
theorem dX1_mixThresholds_99 : decode cX1_mixThresholds 99 = .ok (.iload_n 1, 1) := dk_27 (dk_at dksX1_mixThresholds_4 8 rfl rfl)
theorem dX1_mixThresholds_100 : decode cX1_mixThresholds 100 = .ok (.bipush 7, 2) := dk_16 7 (dk_at dksX1_mixThresholds_4 9 rfl rfl)
theorem dX1_mixThresholds_102 : decode cX1_mixThresholds 102 = .ok (.if_icmp .gt 19, 3) := dk_163 0 19 (dk_at dksX1_mixThresholds_4 11 rfl rfl)
theorem dX1_mixThresholds_105 : decode cX1_mixThresholds 105 = .ok (.aload_n 0, 1) := dk_42 (dk_at dksX1_mixThresholds_4 14 rfl rfl)
theorem dX1_mixThresholds_106 : decode cX1_mixThresholds 106 = .ok (.aload_n 0, 1) := dk_42 (dk_at dksX1_mixThresholds_4 15 rfl rfl)
theorem dX1_mixThresholds_107 : decode cX1_mixThresholds 107 = .ok (.iload_n 1, 1) := dk_27 (dk_at dksX1_mixThresholds_4 16 rfl rfl)
theorem dX1_mixThresholds_108 : decode cX1_mixThresholds 108 = .ok (.invokevirtual 277, 3) := dk_182 1 21 (dk_at dksX1_mixThresholds_4 17 rfl rfl)
theorem dX1_mixThresholds_111 : decode cX1_mixThresholds 111 = .ok (.i2l, 1) := dk_133 (dk_at dksX1_mixThresholds_4 20 rfl rfl)
theorem dX1_mixThresholds_112 : decode cX1_mixThresholds 112 = .ok (.invokevirtual 345, 3) := dk_182 1 89 (dk_at dksX1_mixThresholds_4 21 rfl rfl)
theorem dX1_mixThresholds_115 : decode cX1_mixThresholds 115 = .ok (.iinc 1 1, 3) := dk_132 1 1 (dk_at dksX1_mixThresholds_5 0 rfl rfl)
theorem dX1_mixThresholds_118 : decode cX1_mixThresholds 118 = .ok (.goto (-19), 3) := dk_167 255 237 (dk_at dksX1_mixThresholds_5 3 rfl rfl)
theorem dX1_mixThresholds_121 : decode cX1_mixThresholds 121 = .ok (.aload_n 0, 1) := dk_42 (dk_at dksX1_mixThresholds_5 6 rfl rfl)
theorem dX1_mixThresholds_122 : decode cX1_mixThresholds 122 = .ok (.aload_n 0, 1) := dk_42 (dk_at dksX1_mixThresholds_5 7 rfl rfl)
theorem dX1_mixThresholds_123 : decode cX1_mixThresholds 123 = .ok (.bipush 100, 2) := dk_16 100 (dk_at dksX1_mixThresholds_5 8 rfl rfl)
theorem dX1_mixThresholds_125 : decode cX1_mixThresholds 125 = .ok (.invokevirtual 274, 3) := dk_182 1 18 (dk_at dksX1_mixThresholds_5 10 rfl rfl)
theorem dX1_mixThresholds_128 : decode cX1_mixThresholds 128 = .ok (.i2l, 1) := dk_133 (dk_at dksX1_mixThresholds_5 13 rfl rfl)
theorem dX1_mixThresholds_129 : decode cX1_mixThresholds 129 = .ok (.invokevirtual 345, 3) := dk_182 1 89 (dk_at dksX1_mixThresholds_5 14 rfl rfl)
theorem dX1_mixThresholds_132 : decode cX1_mixThresholds 132 = .ok (.aload_n 0, 1) := dk_42 (dk_at dksX1_mixThresholds_5 17 rfl rfl)
theorem dX1_mixThresholds_133 : decode cX1_mixThresholds 133 = .ok (.aload_n 0, 1) := dk_42 (dk_at dksX1_mixThresholds_5 18 rfl rfl)
theorem dX1_mixThresholds_134 : decode cX1_mixThresholds 134 = .ok (.sipush 1000, 3) := dk_17 3 232 (dk_at dksX1_mixThresholds_5 19 rfl rfl)
theorem dX1_mixThresholds_137 : decode cX1_mixThresholds 137 = .ok (.invokevirtual 274, 3) := dk_182 1 18 (dk_at dksX1_mixThresholds_6 0 rfl rfl)
theorem dX1_mixThresholds_140 : decode cX1_mixThresholds 140 = .ok (.i2l, 1) := dk_133 (dk_at dksX1_mixThresholds_6 3 rfl rfl)
theorem dX1_mixThresholds_141 : decode cX1_mixThresholds 141 = .ok (.invokevirtual 345, 3) := dk_182 1 89 (dk_at dksX1_mixThresholds_6 4 rfl rfl)
theorem dX1_mixThresholds_144 : decode cX1_mixThresholds 144 = .ok (.return_, 1) := dk_177 (dk_at dksX1_mixThresholds_6 7 rfl rfl)
abbrev cX1_drop : ByteArray := prog_1_method_21_code
def yX1_drop : MethodName := ⟨RX1, "drop", "(I)I"⟩
def dkwX1_drop_2 : List UInt8 := [46, 79, 28, 21, 4, 153, 0, 7, 4, 167, 0, 4, 3, 96, 61, 132, 3, 1, 167, 255, 199, 28, 172]
abbrev dktX1_drop_2 : List UInt8 := dkwX1_drop_2 ++ []
def dkwX1_drop_1 : List UInt8 := [182, 0, 174, 54, 4, 42, 180, 0, 54, 29, 21, 4, 153, 0, 7, 3, 167, 0, 9, 42, 180, 0, 50, 29]
abbrev dktX1_drop_1 : List UInt8 := dkwX1_drop_1 ++ dktX1_drop_2
def dkwX1_drop_0 : List UInt8 := [42, 182, 0, 140, 87, 3, 61, 3, 62, 29, 16, 64, 162, 0, 57, 42, 29, 42, 180, 0, 50, 29, 46, 27]
abbrev dktX1_drop_0 : List UInt8 := dkwX1_drop_0 ++ dktX1_drop_1
theorem dksX1_drop_0 : cX1_drop.data.toList.drop 0 = dktX1_drop_0 := by decide +kernel
theorem dksX1_drop_1 : cX1_drop.data.toList.drop 24 = dktX1_drop_1 := dk_seg dksX1_drop_0 24 rfl rfl
theorem dksX1_drop_2 : cX1_drop.data.toList.drop 48 = dktX1_drop_2 := dk_seg dksX1_drop_1 24 rfl rfl
theorem dX1_drop_0 : decode cX1_drop 0 = .ok (.aload_n 0, 1) := dk_42 (dk_at dksX1_drop_0 0 rfl rfl)
theorem dX1_drop_1 : decode cX1_drop 1 = .ok (.invokevirtual 140, 3) := dk_182 0 140 (dk_at dksX1_drop_0 1 rfl rfl)
theorem dX1_drop_4 : decode cX1_drop 4 = .ok (.pop, 1) := dk_87 (dk_at dksX1_drop_0 4 rfl rfl)
theorem dX1_drop_5 : decode cX1_drop 5 = .ok (.iconst 0, 1) := dk_3 (dk_at dksX1_drop_0 5 rfl rfl)
theorem dX1_drop_6 : decode cX1_drop 6 = .ok (.istore_n 2, 1) := dk_61 (dk_at dksX1_drop_0 6 rfl rfl)
theorem dX1_drop_7 : decode cX1_drop 7 = .ok (.iconst 0, 1) := dk_3 (dk_at dksX1_drop_0 7 rfl rfl)
theorem dX1_drop_8 : decode cX1_drop 8 = .ok (.istore_n 3, 1) := dk_62 (dk_at dksX1_drop_0 8 rfl rfl)
theorem dX1_drop_9 : decode cX1_drop 9 = .ok (.iload_n 3, 1) := dk_29 (dk_at dksX1_drop_0 9 rfl rfl)
theorem dX1_drop_10 : decode cX1_drop 10 = .ok (.bipush 64, 2) := dk_16 64 (dk_at dksX1_drop_0 10 rfl rfl)
theorem dX1_drop_12 : decode cX1_drop 12 = .ok (.if_icmp .ge 57, 3) := dk_162 0 57 (dk_at dksX1_drop_0 12 rfl rfl)
theorem dX1_drop_15 : decode cX1_drop 15 = .ok (.aload_n 0, 1) := dk_42 (dk_at dksX1_drop_0 15 rfl rfl)
theorem dX1_drop_16 : decode cX1_drop 16 = .ok (.iload_n 3, 1) := dk_29 (dk_at dksX1_drop_0 16 rfl rfl)
theorem dX1_drop_17 : decode cX1_drop 17 = .ok (.aload_n 0, 1) := dk_42 (dk_at dksX1_drop_0 17 rfl rfl)
theorem dX1_drop_18 : decode cX1_drop 18 = .ok (.getfield 50, 3) := dk_180 0 50 (dk_at dksX1_drop_0 18 rfl rfl)
theorem dX1_drop_21 : decode cX1_drop 21 = .ok (.iload_n 3, 1) := dk_29 (dk_at dksX1_drop_0 21 rfl rfl)
theorem dX1_drop_22 : decode cX1_drop 22 = .ok (.iaload, 1) := dk_46 (dk_at dksX1_drop_0 22 rfl rfl)
theorem dX1_drop_23 : decode cX1_drop 23 = .ok (.iload_n 1, 1) := dk_27 (dk_at dksX1_drop_0 23 rfl rfl)
theorem dX1_drop_24 : decode cX1_drop 24 = .ok (.invokevirtual 174, 3) := dk_182 0 174 (dk_at dksX1_drop_1 0 rfl rfl)
theorem dX1_drop_27 : decode cX1_drop 27 = .ok (.istore 4, 2) := dk_54 4 (dk_at dksX1_drop_1 3 rfl rfl)
theorem dX1_drop_29 : decode cX1_drop 29 = .ok (.aload_n 0, 1) := dk_42 (dk_at dksX1_drop_1 5 rfl rfl)
theorem dX1_drop_30 : decode cX1_drop 30 = .ok (.getfield 54, 3) := dk_180 0 54 (dk_at dksX1_drop_1 6 rfl rfl)
theorem dX1_drop_33 : decode cX1_drop 33 = .ok (.iload_n 3, 1) := dk_29 (dk_at dksX1_drop_1 9 rfl rfl)
theorem dX1_drop_34 : decode cX1_drop 34 = .ok (.iload 4, 2) := dk_21 4 (dk_at dksX1_drop_1 10 rfl rfl)
theorem dX1_drop_36 : decode cX1_drop 36 = .ok (.ifCond .eq 7, 3) := dk_153 0 7 (dk_at dksX1_drop_1 12 rfl rfl)
theorem dX1_drop_39 : decode cX1_drop 39 = .ok (.iconst 0, 1) := dk_3 (dk_at dksX1_drop_1 15 rfl rfl)
theorem dX1_drop_40 : decode cX1_drop 40 = .ok (.goto 9, 3) := dk_167 0 9 (dk_at dksX1_drop_1 16 rfl rfl)
theorem dX1_drop_43 : decode cX1_drop 43 = .ok (.aload_n 0, 1) := dk_42 (dk_at dksX1_drop_1 19 rfl rfl)
theorem dX1_drop_44 : decode cX1_drop 44 = .ok (.getfield 50, 3) := dk_180 0 50 (dk_at dksX1_drop_1 20 rfl rfl)
theorem dX1_drop_47 : decode cX1_drop 47 = .ok (.iload_n 3, 1) := dk_29 (dk_at dksX1_drop_1 23 rfl rfl)
theorem dX1_drop_48 : decode cX1_drop 48 = .ok (.iaload, 1) := dk_46 (dk_at dksX1_drop_2 0 rfl rfl)
theorem dX1_drop_49 : decode cX1_drop 49 = .ok (.iastore, 1) := dk_79 (dk_at dksX1_drop_2 1 rfl rfl)
theorem dX1_drop_50 : decode cX1_drop 50 = .ok (.iload_n 2, 1) := dk_28 (dk_at dksX1_drop_2 2 rfl rfl)
theorem dX1_drop_51 : decode cX1_drop 51 = .ok (.iload 4, 2) := dk_21 4 (dk_at dksX1_drop_2 3 rfl rfl)
theorem dX1_drop_53 : decode cX1_drop 53 = .ok (.ifCond .eq 7, 3) := dk_153 0 7 (dk_at dksX1_drop_2 5 rfl rfl)
theorem dX1_drop_56 : decode cX1_drop 56 = .ok (.iconst 1, 1) := dk_4 (dk_at dksX1_drop_2 8 rfl rfl)
theorem dX1_drop_57 : decode cX1_drop 57 = .ok (.goto 4, 3) := dk_167 0 4 (dk_at dksX1_drop_2 9 rfl rfl)
theorem dX1_drop_60 : decode cX1_drop 60 = .ok (.iconst 0, 1) := dk_3 (dk_at dksX1_drop_2 12 rfl rfl)
theorem dX1_drop_61 : decode cX1_drop 61 = .ok (.iadd, 1) := dk_96 (dk_at dksX1_drop_2 13 rfl rfl)
theorem dX1_drop_62 : decode cX1_drop 62 = .ok (.istore_n 2, 1) := dk_61 (dk_at dksX1_drop_2 14 rfl rfl)
theorem dX1_drop_63 : decode cX1_drop 63 = .ok (.iinc 3 1, 3) := dk_132 3 1 (dk_at dksX1_drop_2 15 rfl rfl)
theorem dX1_drop_66 : decode cX1_drop 66 = .ok (.goto (-57), 3) := dk_167 255 199 (dk_at dksX1_drop_2 18 rfl rfl)
theorem dX1_drop_69 : decode cX1_drop 69 = .ok (.iload_n 2, 1) := dk_28 (dk_at dksX1_drop_2 21 rfl rfl)
theorem dX1_drop_70 : decode cX1_drop 70 = .ok (.ireturn, 1) := dk_172 (dk_at dksX1_drop_2 22 rfl rfl)
abbrev cX1_isCrumb : ByteArray := prog_1_method_20_code
def yX1_isCrumb : MethodName := ⟨RX1, "isCrumb", "(III)Z"⟩
def dkwX1_isCrumb_1 : List UInt8 := [4, 167, 0, 4, 3, 172]
abbrev dktX1_isCrumb_1 : List UInt8 := dkwX1_isCrumb_1 ++ []
def dkwX1_isCrumb_0 : List UInt8 := [42, 182, 0, 161, 180, 0, 165, 27, 46, 158, 0, 19, 28, 153, 0, 15, 28, 184, 0, 168, 29, 163, 0, 7]
abbrev dktX1_isCrumb_0 : List UInt8 := dkwX1_isCrumb_0 ++ dktX1_isCrumb_1
theorem dksX1_isCrumb_0 : cX1_isCrumb.data.toList.drop 0 = dktX1_isCrumb_0 := by decide +kernel
theorem dksX1_isCrumb_1 : cX1_isCrumb.data.toList.drop 24 = dktX1_isCrumb_1 := dk_seg dksX1_isCrumb_0 24 rfl rfl
theorem dX1_isCrumb_0 : decode cX1_isCrumb 0 = .ok (.aload_n 0, 1) := dk_42 (dk_at dksX1_isCrumb_0 0 rfl rfl)
theorem dX1_isCrumb_1 : decode cX1_isCrumb 1 = .ok (.invokevirtual 161, 3) := dk_182 0 161 (dk_at dksX1_isCrumb_0 1 rfl rfl)
theorem dX1_isCrumb_4 : decode cX1_isCrumb 4 = .ok (.getfield 165, 3) := dk_180 0 165 (dk_at dksX1_isCrumb_0 4 rfl rfl)
theorem dX1_isCrumb_7 : decode cX1_isCrumb 7 = .ok (.iload_n 1, 1) := dk_27 (dk_at dksX1_isCrumb_0 7 rfl rfl)
theorem dX1_isCrumb_8 : decode cX1_isCrumb 8 = .ok (.iaload, 1) := dk_46 (dk_at dksX1_isCrumb_0 8 rfl rfl)
theorem dX1_isCrumb_9 : decode cX1_isCrumb 9 = .ok (.ifCond .le 19, 3) := dk_158 0 19 (dk_at dksX1_isCrumb_0 9 rfl rfl)
theorem dX1_isCrumb_12 : decode cX1_isCrumb 12 = .ok (.iload_n 2, 1) := dk_28 (dk_at dksX1_isCrumb_0 12 rfl rfl)
theorem dX1_isCrumb_13 : decode cX1_isCrumb 13 = .ok (.ifCond .eq 15, 3) := dk_153 0 15 (dk_at dksX1_isCrumb_0 13 rfl rfl)
theorem dX1_isCrumb_16 : decode cX1_isCrumb 16 = .ok (.iload_n 2, 1) := dk_28 (dk_at dksX1_isCrumb_0 16 rfl rfl)
theorem dX1_isCrumb_17 : decode cX1_isCrumb 17 = .ok (.invokestatic 168, 3) := dk_184 0 168 (dk_at dksX1_isCrumb_0 17 rfl rfl)
theorem dX1_isCrumb_20 : decode cX1_isCrumb 20 = .ok (.iload_n 3, 1) := dk_29 (dk_at dksX1_isCrumb_0 20 rfl rfl)
theorem dX1_isCrumb_21 : decode cX1_isCrumb 21 = .ok (.if_icmp .gt 7, 3) := dk_163 0 7 (dk_at dksX1_isCrumb_0 21 rfl rfl)
theorem dX1_isCrumb_24 : decode cX1_isCrumb 24 = .ok (.iconst 1, 1) := dk_4 (dk_at dksX1_isCrumb_1 0 rfl rfl)
theorem dX1_isCrumb_25 : decode cX1_isCrumb 25 = .ok (.goto 4, 3) := dk_167 0 4 (dk_at dksX1_isCrumb_1 1 rfl rfl)
theorem dX1_isCrumb_28 : decode cX1_isCrumb 28 = .ok (.iconst 0, 1) := dk_3 (dk_at dksX1_isCrumb_1 4 rfl rfl)
theorem dX1_isCrumb_29 : decode cX1_isCrumb 29 = .ok (.ireturn, 1) := dk_172 (dk_at dksX1_isCrumb_1 5 rfl rfl)
abbrev cX1_costTold : ByteArray := prog_1_method_54_code
def yX1_costTold : MethodName := ⟨RX1, "costTold", "(I)I"⟩
def dkwX1_costTold_0 : List UInt8 := [42, 27, 182, 0, 183, 87, 42, 182, 0, 186, 87, 42, 182, 1, 9, 172]
abbrev dktX1_costTold_0 : List UInt8 := dkwX1_costTold_0 ++ []
theorem dksX1_costTold_0 : cX1_costTold.data.toList.drop 0 = dktX1_costTold_0 := by decide +kernel
theorem dX1_costTold_0 : decode cX1_costTold 0 = .ok (.aload_n 0, 1) := dk_42 (dk_at dksX1_costTold_0 0 rfl rfl)
theorem dX1_costTold_1 : decode cX1_costTold 1 = .ok (.iload_n 1, 1) := dk_27 (dk_at dksX1_costTold_0 1 rfl rfl)
theorem dX1_costTold_2 : decode cX1_costTold 2 = .ok (.invokevirtual 183, 3) := dk_182 0 183 (dk_at dksX1_costTold_0 2 rfl rfl)
theorem dX1_costTold_5 : decode cX1_costTold 5 = .ok (.pop, 1) := dk_87 (dk_at dksX1_costTold_0 5 rfl rfl)
theorem dX1_costTold_6 : decode cX1_costTold 6 = .ok (.aload_n 0, 1) := dk_42 (dk_at dksX1_costTold_0 6 rfl rfl)
theorem dX1_costTold_7 : decode cX1_costTold 7 = .ok (.invokevirtual 186, 3) := dk_182 0 186 (dk_at dksX1_costTold_0 7 rfl rfl)
theorem dX1_costTold_10 : decode cX1_costTold 10 = .ok (.pop, 1) := dk_87 (dk_at dksX1_costTold_0 10 rfl rfl)
theorem dX1_costTold_11 : decode cX1_costTold 11 = .ok (.aload_n 0, 1) := dk_42 (dk_at dksX1_costTold_0 11 rfl rfl)
theorem dX1_costTold_12 : decode cX1_costTold 12 = .ok (.invokevirtual 265, 3) := dk_182 1 9 (dk_at dksX1_costTold_0 12 rfl rfl)
theorem dX1_costTold_15 : decode cX1_costTold 15 = .ok (.ireturn, 1) := dk_172 (dk_at dksX1_costTold_0 15 rfl rfl)
abbrev cX1_backOfOthers : ByteArray := prog_1_method_22_code
def yX1_backOfOthers : MethodName := ⟨RX1, "backOfOthers", "()[I"⟩
def dkwX1_backOfOthers_2 : List UInt8 := [184, 0, 177, 184, 0, 180, 79, 132, 1, 1, 167, 255, 225, 42, 180, 0, 57, 176]
abbrev dktX1_backOfOthers_2 : List UInt8 := dkwX1_backOfOthers_2 ++ []
def dkwX1_backOfOthers_1 : List UInt8 := [60, 27, 16, 64, 162, 0, 31, 42, 180, 0, 57, 27, 3, 17, 0, 255, 42, 180, 0, 57, 27, 46]
abbrev dktX1_backOfOthers_1 : List UInt8 := dkwX1_backOfOthers_1 ++ dktX1_backOfOthers_2
def dkwX1_backOfOthers_0 : List UInt8 := [42, 180, 0, 32, 42, 180, 0, 54, 42, 180, 0, 57, 42, 180, 0, 16, 180, 0, 110, 182, 0, 150, 87, 3]
abbrev dktX1_backOfOthers_0 : List UInt8 := dkwX1_backOfOthers_0 ++ dktX1_backOfOthers_1
theorem dksX1_backOfOthers_0 : cX1_backOfOthers.data.toList.drop 0 = dktX1_backOfOthers_0 := by decide +kernel
theorem dksX1_backOfOthers_1 : cX1_backOfOthers.data.toList.drop 24 = dktX1_backOfOthers_1 := dk_seg dksX1_backOfOthers_0 24 rfl rfl
theorem dksX1_backOfOthers_2 : cX1_backOfOthers.data.toList.drop 46 = dktX1_backOfOthers_2 := dk_seg dksX1_backOfOthers_1 22 rfl rfl
theorem dX1_backOfOthers_0 : decode cX1_backOfOthers 0 = .ok (.aload_n 0, 1) := dk_42 (dk_at dksX1_backOfOthers_0 0 rfl rfl)
theorem dX1_backOfOthers_1 : decode cX1_backOfOthers 1 = .ok (.getfield 32, 3) := dk_180 0 32 (dk_at dksX1_backOfOthers_0 1 rfl rfl)
theorem dX1_backOfOthers_4 : decode cX1_backOfOthers 4 = .ok (.aload_n 0, 1) := dk_42 (dk_at dksX1_backOfOthers_0 4 rfl rfl)
theorem dX1_backOfOthers_5 : decode cX1_backOfOthers 5 = .ok (.getfield 54, 3) := dk_180 0 54 (dk_at dksX1_backOfOthers_0 5 rfl rfl)
theorem dX1_backOfOthers_8 : decode cX1_backOfOthers 8 = .ok (.aload_n 0, 1) := dk_42 (dk_at dksX1_backOfOthers_0 8 rfl rfl)
theorem dX1_backOfOthers_9 : decode cX1_backOfOthers 9 = .ok (.getfield 57, 3) := dk_180 0 57 (dk_at dksX1_backOfOthers_0 9 rfl rfl)
theorem dX1_backOfOthers_12 : decode cX1_backOfOthers 12 = .ok (.aload_n 0, 1) := dk_42 (dk_at dksX1_backOfOthers_0 12 rfl rfl)
theorem dX1_backOfOthers_13 : decode cX1_backOfOthers 13 = .ok (.getfield 16, 3) := dk_180 0 16 (dk_at dksX1_backOfOthers_0 13 rfl rfl)
theorem dX1_backOfOthers_16 : decode cX1_backOfOthers 16 = .ok (.getfield 110, 3) := dk_180 0 110 (dk_at dksX1_backOfOthers_0 16 rfl rfl)
theorem dX1_backOfOthers_19 : decode cX1_backOfOthers 19 = .ok (.invokevirtual 150, 3) := dk_182 0 150 (dk_at dksX1_backOfOthers_0 19 rfl rfl)
theorem dX1_backOfOthers_22 : decode cX1_backOfOthers 22 = .ok (.pop, 1) := dk_87 (dk_at dksX1_backOfOthers_0 22 rfl rfl)
theorem dX1_backOfOthers_23 : decode cX1_backOfOthers 23 = .ok (.iconst 0, 1) := dk_3 (dk_at dksX1_backOfOthers_0 23 rfl rfl)
theorem dX1_backOfOthers_24 : decode cX1_backOfOthers 24 = .ok (.istore_n 1, 1) := dk_60 (dk_at dksX1_backOfOthers_1 0 rfl rfl)
theorem dX1_backOfOthers_25 : decode cX1_backOfOthers 25 = .ok (.iload_n 1, 1) := dk_27 (dk_at dksX1_backOfOthers_1 1 rfl rfl)
theorem dX1_backOfOthers_26 : decode cX1_backOfOthers 26 = .ok (.bipush 64, 2) := dk_16 64 (dk_at dksX1_backOfOthers_1 2 rfl rfl)
theorem dX1_backOfOthers_28 : decode cX1_backOfOthers 28 = .ok (.if_icmp .ge 31, 3) := dk_162 0 31 (dk_at dksX1_backOfOthers_1 4 rfl rfl)
theorem dX1_backOfOthers_31 : decode cX1_backOfOthers 31 = .ok (.aload_n 0, 1) := dk_42 (dk_at dksX1_backOfOthers_1 7 rfl rfl)
theorem dX1_backOfOthers_32 : decode cX1_backOfOthers 32 = .ok (.getfield 57, 3) := dk_180 0 57 (dk_at dksX1_backOfOthers_1 8 rfl rfl)
theorem dX1_backOfOthers_35 : decode cX1_backOfOthers 35 = .ok (.iload_n 1, 1) := dk_27 (dk_at dksX1_backOfOthers_1 11 rfl rfl)
theorem dX1_backOfOthers_36 : decode cX1_backOfOthers 36 = .ok (.iconst 0, 1) := dk_3 (dk_at dksX1_backOfOthers_1 12 rfl rfl)
theorem dX1_backOfOthers_37 : decode cX1_backOfOthers 37 = .ok (.sipush 255, 3) := dk_17 0 255 (dk_at dksX1_backOfOthers_1 13 rfl rfl)
theorem dX1_backOfOthers_40 : decode cX1_backOfOthers 40 = .ok (.aload_n 0, 1) := dk_42 (dk_at dksX1_backOfOthers_1 16 rfl rfl)
theorem dX1_backOfOthers_41 : decode cX1_backOfOthers 41 = .ok (.getfield 57, 3) := dk_180 0 57 (dk_at dksX1_backOfOthers_1 17 rfl rfl)
theorem dX1_backOfOthers_44 : decode cX1_backOfOthers 44 = .ok (.iload_n 1, 1) := dk_27 (dk_at dksX1_backOfOthers_1 20 rfl rfl)
theorem dX1_backOfOthers_45 : decode cX1_backOfOthers 45 = .ok (.iaload, 1) := dk_46 (dk_at dksX1_backOfOthers_1 21 rfl rfl)
theorem dX1_backOfOthers_46 : decode cX1_backOfOthers 46 = .ok (.invokestatic 177, 3) := dk_184 0 177 (dk_at dksX1_backOfOthers_2 0 rfl rfl)
theorem dX1_backOfOthers_49 : decode cX1_backOfOthers 49 = .ok (.invokestatic 180, 3) := dk_184 0 180 (dk_at dksX1_backOfOthers_2 3 rfl rfl)
theorem dX1_backOfOthers_52 : decode cX1_backOfOthers 52 = .ok (.iastore, 1) := dk_79 (dk_at dksX1_backOfOthers_2 6 rfl rfl)
theorem dX1_backOfOthers_53 : decode cX1_backOfOthers 53 = .ok (.iinc 1 1, 3) := dk_132 1 1 (dk_at dksX1_backOfOthers_2 7 rfl rfl)
theorem dX1_backOfOthers_56 : decode cX1_backOfOthers 56 = .ok (.goto (-31), 3) := dk_167 255 225 (dk_at dksX1_backOfOthers_2 10 rfl rfl)
theorem dX1_backOfOthers_59 : decode cX1_backOfOthers 59 = .ok (.aload_n 0, 1) := dk_42 (dk_at dksX1_backOfOthers_2 13 rfl rfl)
theorem dX1_backOfOthers_60 : decode cX1_backOfOthers 60 = .ok (.getfield 57, 3) := dk_180 0 57 (dk_at dksX1_backOfOthers_2 14 rfl rfl)
theorem dX1_backOfOthers_63 : decode cX1_backOfOthers 63 = .ok (.areturn, 1) := dk_176 (dk_at dksX1_backOfOthers_2 17 rfl rfl)
abbrev cX1_apart : ByteArray := prog_1_method_53_code
def yX1_apart : MethodName := ⟨RX1, "apart", "()I"⟩
def dkwX1_apart_1 : List UInt8 := [28, 46, 100, 184, 0, 168, 96, 60, 132, 2, 1, 167, 255, 225, 27, 172]
abbrev dktX1_apart_1 : List UInt8 := dkwX1_apart_1 ++ []
def dkwX1_apart_0 : List UInt8 := [3, 60, 3, 61, 28, 16, 64, 162, 0, 31, 27, 42, 180, 0, 57, 28, 46, 42, 180, 0, 16, 180, 0, 114]
abbrev dktX1_apart_0 : List UInt8 := dkwX1_apart_0 ++ dktX1_apart_1
theorem dksX1_apart_0 : cX1_apart.data.toList.drop 0 = dktX1_apart_0 := by decide +kernel
theorem dksX1_apart_1 : cX1_apart.data.toList.drop 24 = dktX1_apart_1 := dk_seg dksX1_apart_0 24 rfl rfl
theorem dX1_apart_0 : decode cX1_apart 0 = .ok (.iconst 0, 1) := dk_3 (dk_at dksX1_apart_0 0 rfl rfl)
theorem dX1_apart_1 : decode cX1_apart 1 = .ok (.istore_n 1, 1) := dk_60 (dk_at dksX1_apart_0 1 rfl rfl)
theorem dX1_apart_2 : decode cX1_apart 2 = .ok (.iconst 0, 1) := dk_3 (dk_at dksX1_apart_0 2 rfl rfl)
theorem dX1_apart_3 : decode cX1_apart 3 = .ok (.istore_n 2, 1) := dk_61 (dk_at dksX1_apart_0 3 rfl rfl)
theorem dX1_apart_4 : decode cX1_apart 4 = .ok (.iload_n 2, 1) := dk_28 (dk_at dksX1_apart_0 4 rfl rfl)
theorem dX1_apart_5 : decode cX1_apart 5 = .ok (.bipush 64, 2) := dk_16 64 (dk_at dksX1_apart_0 5 rfl rfl)
theorem dX1_apart_7 : decode cX1_apart 7 = .ok (.if_icmp .ge 31, 3) := dk_162 0 31 (dk_at dksX1_apart_0 7 rfl rfl)
theorem dX1_apart_10 : decode cX1_apart 10 = .ok (.iload_n 1, 1) := dk_27 (dk_at dksX1_apart_0 10 rfl rfl)
theorem dX1_apart_11 : decode cX1_apart 11 = .ok (.aload_n 0, 1) := dk_42 (dk_at dksX1_apart_0 11 rfl rfl)
theorem dX1_apart_12 : decode cX1_apart 12 = .ok (.getfield 57, 3) := dk_180 0 57 (dk_at dksX1_apart_0 12 rfl rfl)
theorem dX1_apart_15 : decode cX1_apart 15 = .ok (.iload_n 2, 1) := dk_28 (dk_at dksX1_apart_0 15 rfl rfl)
theorem dX1_apart_16 : decode cX1_apart 16 = .ok (.iaload, 1) := dk_46 (dk_at dksX1_apart_0 16 rfl rfl)
theorem dX1_apart_17 : decode cX1_apart 17 = .ok (.aload_n 0, 1) := dk_42 (dk_at dksX1_apart_0 17 rfl rfl)
theorem dX1_apart_18 : decode cX1_apart 18 = .ok (.getfield 16, 3) := dk_180 0 16 (dk_at dksX1_apart_0 18 rfl rfl)
theorem dX1_apart_21 : decode cX1_apart 21 = .ok (.getfield 114, 3) := dk_180 0 114 (dk_at dksX1_apart_0 21 rfl rfl)
theorem dX1_apart_24 : decode cX1_apart 24 = .ok (.iload_n 2, 1) := dk_28 (dk_at dksX1_apart_1 0 rfl rfl)
theorem dX1_apart_25 : decode cX1_apart 25 = .ok (.iaload, 1) := dk_46 (dk_at dksX1_apart_1 1 rfl rfl)
theorem dX1_apart_26 : decode cX1_apart 26 = .ok (.isub, 1) := dk_100 (dk_at dksX1_apart_1 2 rfl rfl)
theorem dX1_apart_27 : decode cX1_apart 27 = .ok (.invokestatic 168, 3) := dk_184 0 168 (dk_at dksX1_apart_1 3 rfl rfl)
theorem dX1_apart_30 : decode cX1_apart 30 = .ok (.iadd, 1) := dk_96 (dk_at dksX1_apart_1 6 rfl rfl)
theorem dX1_apart_31 : decode cX1_apart 31 = .ok (.istore_n 1, 1) := dk_60 (dk_at dksX1_apart_1 7 rfl rfl)
theorem dX1_apart_32 : decode cX1_apart 32 = .ok (.iinc 2 1, 3) := dk_132 2 1 (dk_at dksX1_apart_1 8 rfl rfl)
theorem dX1_apart_35 : decode cX1_apart 35 = .ok (.goto (-31), 3) := dk_167 255 225 (dk_at dksX1_apart_1 11 rfl rfl)
theorem dX1_apart_38 : decode cX1_apart 38 = .ok (.iload_n 1, 1) := dk_27 (dk_at dksX1_apart_1 14 rfl rfl)
theorem dX1_apart_39 : decode cX1_apart 39 = .ok (.ireturn, 1) := dk_172 (dk_at dksX1_apart_1 15 rfl rfl)
abbrev cX1_worstTold : ByteArray := prog_1_method_56_code
def yX1_worstTold : MethodName := ⟨RX1, "worstTold", "(I)I"⟩
def dkwX1_worstTold_2 : List UInt8 := [132, 3, 1, 167, 255, 223, 28, 172]
abbrev dktX1_worstTold_2 : List UInt8 := dkwX1_worstTold_2 ++ []
def dkwX1_worstTold_1 : List UInt8 := [180, 0, 57, 29, 46, 42, 180, 0, 16, 180, 0, 114, 29, 46, 100, 184, 0, 168, 184, 0, 180, 61]
abbrev dktX1_worstTold_1 : List UInt8 := dkwX1_worstTold_1 ++ dktX1_worstTold_2
def dkwX1_worstTold_0 : List UInt8 := [42, 27, 182, 0, 183, 87, 42, 182, 0, 186, 87, 3, 61, 3, 62, 29, 16, 64, 162, 0, 33, 28, 42]
abbrev dktX1_worstTold_0 : List UInt8 := dkwX1_worstTold_0 ++ dktX1_worstTold_1
theorem dksX1_worstTold_0 : cX1_worstTold.data.toList.drop 0 = dktX1_worstTold_0 := by decide +kernel
theorem dksX1_worstTold_1 : cX1_worstTold.data.toList.drop 23 = dktX1_worstTold_1 := dk_seg dksX1_worstTold_0 23 rfl rfl
theorem dksX1_worstTold_2 : cX1_worstTold.data.toList.drop 45 = dktX1_worstTold_2 := dk_seg dksX1_worstTold_1 22 rfl rfl
theorem dX1_worstTold_0 : decode cX1_worstTold 0 = .ok (.aload_n 0, 1) := dk_42 (dk_at dksX1_worstTold_0 0 rfl rfl)
theorem dX1_worstTold_1 : decode cX1_worstTold 1 = .ok (.iload_n 1, 1) := dk_27 (dk_at dksX1_worstTold_0 1 rfl rfl)
theorem dX1_worstTold_2 : decode cX1_worstTold 2 = .ok (.invokevirtual 183, 3) := dk_182 0 183 (dk_at dksX1_worstTold_0 2 rfl rfl)
theorem dX1_worstTold_5 : decode cX1_worstTold 5 = .ok (.pop, 1) := dk_87 (dk_at dksX1_worstTold_0 5 rfl rfl)
theorem dX1_worstTold_6 : decode cX1_worstTold 6 = .ok (.aload_n 0, 1) := dk_42 (dk_at dksX1_worstTold_0 6 rfl rfl)
theorem dX1_worstTold_7 : decode cX1_worstTold 7 = .ok (.invokevirtual 186, 3) := dk_182 0 186 (dk_at dksX1_worstTold_0 7 rfl rfl)
theorem dX1_worstTold_10 : decode cX1_worstTold 10 = .ok (.pop, 1) := dk_87 (dk_at dksX1_worstTold_0 10 rfl rfl)
theorem dX1_worstTold_11 : decode cX1_worstTold 11 = .ok (.iconst 0, 1) := dk_3 (dk_at dksX1_worstTold_0 11 rfl rfl)
theorem dX1_worstTold_12 : decode cX1_worstTold 12 = .ok (.istore_n 2, 1) := dk_61 (dk_at dksX1_worstTold_0 12 rfl rfl)
theorem dX1_worstTold_13 : decode cX1_worstTold 13 = .ok (.iconst 0, 1) := dk_3 (dk_at dksX1_worstTold_0 13 rfl rfl)
theorem dX1_worstTold_14 : decode cX1_worstTold 14 = .ok (.istore_n 3, 1) := dk_62 (dk_at dksX1_worstTold_0 14 rfl rfl)
theorem dX1_worstTold_15 : decode cX1_worstTold 15 = .ok (.iload_n 3, 1) := dk_29 (dk_at dksX1_worstTold_0 15 rfl rfl)
theorem dX1_worstTold_16 : decode cX1_worstTold 16 = .ok (.bipush 64, 2) := dk_16 64 (dk_at dksX1_worstTold_0 16 rfl rfl)
theorem dX1_worstTold_18 : decode cX1_worstTold 18 = .ok (.if_icmp .ge 33, 3) := dk_162 0 33 (dk_at dksX1_worstTold_0 18 rfl rfl)
theorem dX1_worstTold_21 : decode cX1_worstTold 21 = .ok (.iload_n 2, 1) := dk_28 (dk_at dksX1_worstTold_0 21 rfl rfl)
theorem dX1_worstTold_22 : decode cX1_worstTold 22 = .ok (.aload_n 0, 1) := dk_42 (dk_at dksX1_worstTold_0 22 rfl rfl)
theorem dX1_worstTold_23 : decode cX1_worstTold 23 = .ok (.getfield 57, 3) := dk_180 0 57 (dk_at dksX1_worstTold_1 0 rfl rfl)
theorem dX1_worstTold_26 : decode cX1_worstTold 26 = .ok (.iload_n 3, 1) := dk_29 (dk_at dksX1_worstTold_1 3 rfl rfl)
theorem dX1_worstTold_27 : decode cX1_worstTold 27 = .ok (.iaload, 1) := dk_46 (dk_at dksX1_worstTold_1 4 rfl rfl)
theorem dX1_worstTold_28 : decode cX1_worstTold 28 = .ok (.aload_n 0, 1) := dk_42 (dk_at dksX1_worstTold_1 5 rfl rfl)
theorem dX1_worstTold_29 : decode cX1_worstTold 29 = .ok (.getfield 16, 3) := dk_180 0 16 (dk_at dksX1_worstTold_1 6 rfl rfl)
theorem dX1_worstTold_32 : decode cX1_worstTold 32 = .ok (.getfield 114, 3) := dk_180 0 114 (dk_at dksX1_worstTold_1 9 rfl rfl)
theorem dX1_worstTold_35 : decode cX1_worstTold 35 = .ok (.iload_n 3, 1) := dk_29 (dk_at dksX1_worstTold_1 12 rfl rfl)
theorem dX1_worstTold_36 : decode cX1_worstTold 36 = .ok (.iaload, 1) := dk_46 (dk_at dksX1_worstTold_1 13 rfl rfl)
theorem dX1_worstTold_37 : decode cX1_worstTold 37 = .ok (.isub, 1) := dk_100 (dk_at dksX1_worstTold_1 14 rfl rfl)
theorem dX1_worstTold_38 : decode cX1_worstTold 38 = .ok (.invokestatic 168, 3) := dk_184 0 168 (dk_at dksX1_worstTold_1 15 rfl rfl)
theorem dX1_worstTold_41 : decode cX1_worstTold 41 = .ok (.invokestatic 180, 3) := dk_184 0 180 (dk_at dksX1_worstTold_1 18 rfl rfl)
theorem dX1_worstTold_44 : decode cX1_worstTold 44 = .ok (.istore_n 2, 1) := dk_61 (dk_at dksX1_worstTold_1 21 rfl rfl)
theorem dX1_worstTold_45 : decode cX1_worstTold 45 = .ok (.iinc 3 1, 3) := dk_132 3 1 (dk_at dksX1_worstTold_2 0 rfl rfl)
theorem dX1_worstTold_48 : decode cX1_worstTold 48 = .ok (.goto (-33), 3) := dk_167 255 223 (dk_at dksX1_worstTold_2 3 rfl rfl)
theorem dX1_worstTold_51 : decode cX1_worstTold 51 = .ok (.iload_n 2, 1) := dk_28 (dk_at dksX1_worstTold_2 6 rfl rfl)
theorem dX1_worstTold_52 : decode cX1_worstTold 52 = .ok (.ireturn, 1) := dk_172 (dk_at dksX1_worstTold_2 7 rfl rfl)
abbrev cX1_treesOf : ByteArray := prog_1_method_62_code
def yX1_treesOf : MethodName := ⟨RX1, "treesOf", "(I)LCrumbPictures$Trees;"⟩
def dkwX1_treesOf_0 : List UInt8 := [42, 180, 0, 39, 42, 182, 0, 140, 42, 180, 0, 16, 180, 0, 110, 27, 182, 1, 24, 176]
abbrev dktX1_treesOf_0 : List UInt8 := dkwX1_treesOf_0 ++ []
theorem dksX1_treesOf_0 : cX1_treesOf.data.toList.drop 0 = dktX1_treesOf_0 := by decide +kernel
theorem dX1_treesOf_0 : decode cX1_treesOf 0 = .ok (.aload_n 0, 1) := dk_42 (dk_at dksX1_treesOf_0 0 rfl rfl)
theorem dX1_treesOf_1 : decode cX1_treesOf 1 = .ok (.getfield 39, 3) := dk_180 0 39 (dk_at dksX1_treesOf_0 1 rfl rfl)
theorem dX1_treesOf_4 : decode cX1_treesOf 4 = .ok (.aload_n 0, 1) := dk_42 (dk_at dksX1_treesOf_0 4 rfl rfl)
theorem dX1_treesOf_5 : decode cX1_treesOf 5 = .ok (.invokevirtual 140, 3) := dk_182 0 140 (dk_at dksX1_treesOf_0 5 rfl rfl)
theorem dX1_treesOf_8 : decode cX1_treesOf 8 = .ok (.aload_n 0, 1) := dk_42 (dk_at dksX1_treesOf_0 8 rfl rfl)
theorem dX1_treesOf_9 : decode cX1_treesOf 9 = .ok (.getfield 16, 3) := dk_180 0 16 (dk_at dksX1_treesOf_0 9 rfl rfl)
theorem dX1_treesOf_12 : decode cX1_treesOf 12 = .ok (.getfield 110, 3) := dk_180 0 110 (dk_at dksX1_treesOf_0 12 rfl rfl)
theorem dX1_treesOf_15 : decode cX1_treesOf 15 = .ok (.iload_n 1, 1) := dk_27 (dk_at dksX1_treesOf_0 15 rfl rfl)
theorem dX1_treesOf_16 : decode cX1_treesOf 16 = .ok (.invokevirtual 280, 3) := dk_182 1 24 (dk_at dksX1_treesOf_0 16 rfl rfl)
theorem dX1_treesOf_19 : decode cX1_treesOf 19 = .ok (.areturn, 1) := dk_176 (dk_at dksX1_treesOf_0 19 rfl rfl)
abbrev cX1_lengthWithout : ByteArray := prog_1_method_75_code
def yX1_lengthWithout : MethodName := ⟨RX1, "lengthWithout", "(I)I"⟩
def dkwX1_lengthWithout_1 : List UInt8 := [172]
abbrev dktX1_lengthWithout_1 : List UInt8 := dkwX1_lengthWithout_1 ++ []
def dkwX1_lengthWithout_0 : List UInt8 := [42, 27, 182, 0, 183, 87, 42, 180, 0, 46, 42, 180, 0, 54, 42, 182, 0, 161, 182, 1, 41, 180, 1, 49]
abbrev dktX1_lengthWithout_0 : List UInt8 := dkwX1_lengthWithout_0 ++ dktX1_lengthWithout_1
theorem dksX1_lengthWithout_0 : cX1_lengthWithout.data.toList.drop 0 = dktX1_lengthWithout_0 := by decide +kernel
theorem dksX1_lengthWithout_1 : cX1_lengthWithout.data.toList.drop 24 = dktX1_lengthWithout_1 := dk_seg dksX1_lengthWithout_0 24 rfl rfl
theorem dX1_lengthWithout_0 : decode cX1_lengthWithout 0 = .ok (.aload_n 0, 1) := dk_42 (dk_at dksX1_lengthWithout_0 0 rfl rfl)
theorem dX1_lengthWithout_1 : decode cX1_lengthWithout 1 = .ok (.iload_n 1, 1) := dk_27 (dk_at dksX1_lengthWithout_0 1 rfl rfl)
theorem dX1_lengthWithout_2 : decode cX1_lengthWithout 2 = .ok (.invokevirtual 183, 3) := dk_182 0 183 (dk_at dksX1_lengthWithout_0 2 rfl rfl)
theorem dX1_lengthWithout_5 : decode cX1_lengthWithout 5 = .ok (.pop, 1) := dk_87 (dk_at dksX1_lengthWithout_0 5 rfl rfl)
theorem dX1_lengthWithout_6 : decode cX1_lengthWithout 6 = .ok (.aload_n 0, 1) := dk_42 (dk_at dksX1_lengthWithout_0 6 rfl rfl)
theorem dX1_lengthWithout_7 : decode cX1_lengthWithout 7 = .ok (.getfield 46, 3) := dk_180 0 46 (dk_at dksX1_lengthWithout_0 7 rfl rfl)
theorem dX1_lengthWithout_10 : decode cX1_lengthWithout 10 = .ok (.aload_n 0, 1) := dk_42 (dk_at dksX1_lengthWithout_0 10 rfl rfl)
theorem dX1_lengthWithout_11 : decode cX1_lengthWithout 11 = .ok (.getfield 54, 3) := dk_180 0 54 (dk_at dksX1_lengthWithout_0 11 rfl rfl)
theorem dX1_lengthWithout_14 : decode cX1_lengthWithout 14 = .ok (.aload_n 0, 1) := dk_42 (dk_at dksX1_lengthWithout_0 14 rfl rfl)
theorem dX1_lengthWithout_15 : decode cX1_lengthWithout 15 = .ok (.invokevirtual 161, 3) := dk_182 0 161 (dk_at dksX1_lengthWithout_0 15 rfl rfl)
theorem dX1_lengthWithout_18 : decode cX1_lengthWithout 18 = .ok (.invokevirtual 297, 3) := dk_182 1 41 (dk_at dksX1_lengthWithout_0 18 rfl rfl)
theorem dX1_lengthWithout_21 : decode cX1_lengthWithout 21 = .ok (.getfield 305, 3) := dk_180 1 49 (dk_at dksX1_lengthWithout_0 21 rfl rfl)
theorem dX1_lengthWithout_24 : decode cX1_lengthWithout 24 = .ok (.ireturn, 1) := dk_172 (dk_at dksX1_lengthWithout_1 0 rfl rfl)
abbrev cX1_planesTold : ByteArray := prog_1_method_60_code
def yX1_planesTold : MethodName := ⟨RX1, "planesTold", "(I)I"⟩
def dkwX1_planesTold_3 : List UInt8 := [182, 0, 186, 87, 42, 182, 1, 9, 172]
abbrev dktX1_planesTold_3 : List UInt8 := dkwX1_planesTold_3 ++ []
def dkwX1_planesTold_2 : List UInt8 := [167, 0, 14, 42, 180, 0, 50, 21, 4, 46, 29, 108, 29, 104, 79, 132, 4, 1, 167, 255, 211, 42]
abbrev dktX1_planesTold_2 : List UInt8 := dkwX1_planesTold_2 ++ dktX1_planesTold_3
def dkwX1_planesTold_1 : List UInt8 := [162, 0, 44, 42, 180, 0, 54, 21, 4, 44, 21, 4, 46, 154, 0, 13, 42, 180, 0, 50, 21, 4, 46]
abbrev dktX1_planesTold_1 : List UInt8 := dkwX1_planesTold_1 ++ dktX1_planesTold_2
def dkwX1_planesTold_0 : List UInt8 := [42, 182, 0, 140, 87, 42, 182, 0, 161, 180, 0, 165, 77, 4, 27, 120, 62, 3, 54, 4, 21, 4, 16, 64]
abbrev dktX1_planesTold_0 : List UInt8 := dkwX1_planesTold_0 ++ dktX1_planesTold_1
theorem dksX1_planesTold_0 : cX1_planesTold.data.toList.drop 0 = dktX1_planesTold_0 := by decide +kernel
theorem dksX1_planesTold_1 : cX1_planesTold.data.toList.drop 24 = dktX1_planesTold_1 := dk_seg dksX1_planesTold_0 24 rfl rfl
theorem dksX1_planesTold_2 : cX1_planesTold.data.toList.drop 47 = dktX1_planesTold_2 := dk_seg dksX1_planesTold_1 23 rfl rfl
theorem dksX1_planesTold_3 : cX1_planesTold.data.toList.drop 69 = dktX1_planesTold_3 := dk_seg dksX1_planesTold_2 22 rfl rfl
theorem dX1_planesTold_0 : decode cX1_planesTold 0 = .ok (.aload_n 0, 1) := dk_42 (dk_at dksX1_planesTold_0 0 rfl rfl)
theorem dX1_planesTold_1 : decode cX1_planesTold 1 = .ok (.invokevirtual 140, 3) := dk_182 0 140 (dk_at dksX1_planesTold_0 1 rfl rfl)
theorem dX1_planesTold_4 : decode cX1_planesTold 4 = .ok (.pop, 1) := dk_87 (dk_at dksX1_planesTold_0 4 rfl rfl)
theorem dX1_planesTold_5 : decode cX1_planesTold 5 = .ok (.aload_n 0, 1) := dk_42 (dk_at dksX1_planesTold_0 5 rfl rfl)
theorem dX1_planesTold_6 : decode cX1_planesTold 6 = .ok (.invokevirtual 161, 3) := dk_182 0 161 (dk_at dksX1_planesTold_0 6 rfl rfl)
theorem dX1_planesTold_9 : decode cX1_planesTold 9 = .ok (.getfield 165, 3) := dk_180 0 165 (dk_at dksX1_planesTold_0 9 rfl rfl)
theorem dX1_planesTold_12 : decode cX1_planesTold 12 = .ok (.astore_n 2, 1) := dk_77 (dk_at dksX1_planesTold_0 12 rfl rfl)
theorem dX1_planesTold_13 : decode cX1_planesTold 13 = .ok (.iconst 1, 1) := dk_4 (dk_at dksX1_planesTold_0 13 rfl rfl)
theorem dX1_planesTold_14 : decode cX1_planesTold 14 = .ok (.iload_n 1, 1) := dk_27 (dk_at dksX1_planesTold_0 14 rfl rfl)
theorem dX1_planesTold_15 : decode cX1_planesTold 15 = .ok (.ishl, 1) := dk_120 (dk_at dksX1_planesTold_0 15 rfl rfl)
theorem dX1_planesTold_16 : decode cX1_planesTold 16 = .ok (.istore_n 3, 1) := dk_62 (dk_at dksX1_planesTold_0 16 rfl rfl)
theorem dX1_planesTold_17 : decode cX1_planesTold 17 = .ok (.iconst 0, 1) := dk_3 (dk_at dksX1_planesTold_0 17 rfl rfl)
theorem dX1_planesTold_18 : decode cX1_planesTold 18 = .ok (.istore 4, 2) := dk_54 4 (dk_at dksX1_planesTold_0 18 rfl rfl)
theorem dX1_planesTold_20 : decode cX1_planesTold 20 = .ok (.iload 4, 2) := dk_21 4 (dk_at dksX1_planesTold_0 20 rfl rfl)
theorem dX1_planesTold_22 : decode cX1_planesTold 22 = .ok (.bipush 64, 2) := dk_16 64 (dk_at dksX1_planesTold_0 22 rfl rfl)
theorem dX1_planesTold_24 : decode cX1_planesTold 24 = .ok (.if_icmp .ge 44, 3) := dk_162 0 44 (dk_at dksX1_planesTold_1 0 rfl rfl)
theorem dX1_planesTold_27 : decode cX1_planesTold 27 = .ok (.aload_n 0, 1) := dk_42 (dk_at dksX1_planesTold_1 3 rfl rfl)
theorem dX1_planesTold_28 : decode cX1_planesTold 28 = .ok (.getfield 54, 3) := dk_180 0 54 (dk_at dksX1_planesTold_1 4 rfl rfl)
theorem dX1_planesTold_31 : decode cX1_planesTold 31 = .ok (.iload 4, 2) := dk_21 4 (dk_at dksX1_planesTold_1 7 rfl rfl)
theorem dX1_planesTold_33 : decode cX1_planesTold 33 = .ok (.aload_n 2, 1) := dk_44 (dk_at dksX1_planesTold_1 9 rfl rfl)
theorem dX1_planesTold_34 : decode cX1_planesTold 34 = .ok (.iload 4, 2) := dk_21 4 (dk_at dksX1_planesTold_1 10 rfl rfl)
theorem dX1_planesTold_36 : decode cX1_planesTold 36 = .ok (.iaload, 1) := dk_46 (dk_at dksX1_planesTold_1 12 rfl rfl)
theorem dX1_planesTold_37 : decode cX1_planesTold 37 = .ok (.ifCond .ne 13, 3) := dk_154 0 13 (dk_at dksX1_planesTold_1 13 rfl rfl)
theorem dX1_planesTold_40 : decode cX1_planesTold 40 = .ok (.aload_n 0, 1) := dk_42 (dk_at dksX1_planesTold_1 16 rfl rfl)
theorem dX1_planesTold_41 : decode cX1_planesTold 41 = .ok (.getfield 50, 3) := dk_180 0 50 (dk_at dksX1_planesTold_1 17 rfl rfl)
theorem dX1_planesTold_44 : decode cX1_planesTold 44 = .ok (.iload 4, 2) := dk_21 4 (dk_at dksX1_planesTold_1 20 rfl rfl)
theorem dX1_planesTold_46 : decode cX1_planesTold 46 = .ok (.iaload, 1) := dk_46 (dk_at dksX1_planesTold_1 22 rfl rfl)
theorem dX1_planesTold_47 : decode cX1_planesTold 47 = .ok (.goto 14, 3) := dk_167 0 14 (dk_at dksX1_planesTold_2 0 rfl rfl)
theorem dX1_planesTold_50 : decode cX1_planesTold 50 = .ok (.aload_n 0, 1) := dk_42 (dk_at dksX1_planesTold_2 3 rfl rfl)
theorem dX1_planesTold_51 : decode cX1_planesTold 51 = .ok (.getfield 50, 3) := dk_180 0 50 (dk_at dksX1_planesTold_2 4 rfl rfl)
theorem dX1_planesTold_54 : decode cX1_planesTold 54 = .ok (.iload 4, 2) := dk_21 4 (dk_at dksX1_planesTold_2 7 rfl rfl)
theorem dX1_planesTold_56 : decode cX1_planesTold 56 = .ok (.iaload, 1) := dk_46 (dk_at dksX1_planesTold_2 9 rfl rfl)
theorem dX1_planesTold_57 : decode cX1_planesTold 57 = .ok (.iload_n 3, 1) := dk_29 (dk_at dksX1_planesTold_2 10 rfl rfl)
theorem dX1_planesTold_58 : decode cX1_planesTold 58 = .ok (.idiv, 1) := dk_108 (dk_at dksX1_planesTold_2 11 rfl rfl)
theorem dX1_planesTold_59 : decode cX1_planesTold 59 = .ok (.iload_n 3, 1) := dk_29 (dk_at dksX1_planesTold_2 12 rfl rfl)
theorem dX1_planesTold_60 : decode cX1_planesTold 60 = .ok (.imul, 1) := dk_104 (dk_at dksX1_planesTold_2 13 rfl rfl)
theorem dX1_planesTold_61 : decode cX1_planesTold 61 = .ok (.iastore, 1) := dk_79 (dk_at dksX1_planesTold_2 14 rfl rfl)
theorem dX1_planesTold_62 : decode cX1_planesTold 62 = .ok (.iinc 4 1, 3) := dk_132 4 1 (dk_at dksX1_planesTold_2 15 rfl rfl)
theorem dX1_planesTold_65 : decode cX1_planesTold 65 = .ok (.goto (-45), 3) := dk_167 255 211 (dk_at dksX1_planesTold_2 18 rfl rfl)
theorem dX1_planesTold_68 : decode cX1_planesTold 68 = .ok (.aload_n 0, 1) := dk_42 (dk_at dksX1_planesTold_2 21 rfl rfl)
theorem dX1_planesTold_69 : decode cX1_planesTold 69 = .ok (.invokevirtual 186, 3) := dk_182 0 186 (dk_at dksX1_planesTold_3 0 rfl rfl)
theorem dX1_planesTold_72 : decode cX1_planesTold 72 = .ok (.pop, 1) := dk_87 (dk_at dksX1_planesTold_3 3 rfl rfl)
theorem dX1_planesTold_73 : decode cX1_planesTold 73 = .ok (.aload_n 0, 1) := dk_42 (dk_at dksX1_planesTold_3 4 rfl rfl)
theorem dX1_planesTold_74 : decode cX1_planesTold 74 = .ok (.invokevirtual 265, 3) := dk_182 1 9 (dk_at dksX1_planesTold_3 5 rfl rfl)
theorem dX1_planesTold_77 : decode cX1_planesTold 77 = .ok (.ireturn, 1) := dk_172 (dk_at dksX1_planesTold_3 8 rfl rfl)
abbrev cX1_thresholdTold : ByteArray := prog_1_method_58_code
def yX1_thresholdTold : MethodName := ⟨RX1, "thresholdTold", "(I)I"⟩
def dkwX1_thresholdTold_0 : List UInt8 := [17, 0, 255, 61, 42, 28, 182, 1, 12, 27, 164, 0, 9, 132, 2, 255, 167, 255, 244, 28, 172]
abbrev dktX1_thresholdTold_0 : List UInt8 := dkwX1_thresholdTold_0 ++ []
theorem dksX1_thresholdTold_0 : cX1_thresholdTold.data.toList.drop 0 = dktX1_thresholdTold_0 := by decide +kernel
theorem dX1_thresholdTold_0 : decode cX1_thresholdTold 0 = .ok (.sipush 255, 3) := dk_17 0 255 (dk_at dksX1_thresholdTold_0 0 rfl rfl)
theorem dX1_thresholdTold_3 : decode cX1_thresholdTold 3 = .ok (.istore_n 2, 1) := dk_61 (dk_at dksX1_thresholdTold_0 3 rfl rfl)
theorem dX1_thresholdTold_4 : decode cX1_thresholdTold 4 = .ok (.aload_n 0, 1) := dk_42 (dk_at dksX1_thresholdTold_0 4 rfl rfl)
theorem dX1_thresholdTold_5 : decode cX1_thresholdTold 5 = .ok (.iload_n 2, 1) := dk_28 (dk_at dksX1_thresholdTold_0 5 rfl rfl)
theorem dX1_thresholdTold_6 : decode cX1_thresholdTold 6 = .ok (.invokevirtual 268, 3) := dk_182 1 12 (dk_at dksX1_thresholdTold_0 6 rfl rfl)
theorem dX1_thresholdTold_9 : decode cX1_thresholdTold 9 = .ok (.iload_n 1, 1) := dk_27 (dk_at dksX1_thresholdTold_0 9 rfl rfl)
theorem dX1_thresholdTold_10 : decode cX1_thresholdTold 10 = .ok (.if_icmp .le 9, 3) := dk_164 0 9 (dk_at dksX1_thresholdTold_0 10 rfl rfl)
theorem dX1_thresholdTold_13 : decode cX1_thresholdTold 13 = .ok (.iinc 2 (-1), 3) := dk_132 2 255 (dk_at dksX1_thresholdTold_0 13 rfl rfl)
theorem dX1_thresholdTold_16 : decode cX1_thresholdTold 16 = .ok (.goto (-12), 3) := dk_167 255 244 (dk_at dksX1_thresholdTold_0 16 rfl rfl)
theorem dX1_thresholdTold_19 : decode cX1_thresholdTold 19 = .ok (.iload_n 2, 1) := dk_28 (dk_at dksX1_thresholdTold_0 19 rfl rfl)
theorem dX1_thresholdTold_20 : decode cX1_thresholdTold 20 = .ok (.ireturn, 1) := dk_172 (dk_at dksX1_thresholdTold_0 20 rfl rfl)
abbrev cX1_mixCode : ByteArray := prog_1_method_83_code
def yX1_mixCode : MethodName := ⟨RX1, "mixCode", "()V"⟩
def dkwX1_mixCode_2 : List UInt8 := [132, 2, 1, 167, 255, 238, 177]
abbrev dktX1_mixCode_2 : List UInt8 := dkwX1_mixCode_2 ++ []
def dkwX1_mixCode_1 : List UInt8 := [132, 2, 1, 167, 255, 239, 4, 61, 28, 6, 163, 0, 19, 42, 42, 28, 182, 1, 71, 133, 182, 1, 89]
abbrev dktX1_mixCode_1 : List UInt8 := dkwX1_mixCode_1 ++ dktX1_mixCode_2
def dkwX1_mixCode_0 : List UInt8 := [42, 182, 1, 45, 182, 1, 61, 76, 3, 61, 28, 16, 64, 162, 0, 17, 42, 43, 28, 46, 133, 182, 1, 89]
abbrev dktX1_mixCode_0 : List UInt8 := dkwX1_mixCode_0 ++ dktX1_mixCode_1
theorem dksX1_mixCode_0 : cX1_mixCode.data.toList.drop 0 = dktX1_mixCode_0 := by decide +kernel
theorem dksX1_mixCode_1 : cX1_mixCode.data.toList.drop 24 = dktX1_mixCode_1 := dk_seg dksX1_mixCode_0 24 rfl rfl
theorem dksX1_mixCode_2 : cX1_mixCode.data.toList.drop 47 = dktX1_mixCode_2 := dk_seg dksX1_mixCode_1 23 rfl rfl
theorem dX1_mixCode_0 : decode cX1_mixCode 0 = .ok (.aload_n 0, 1) := dk_42 (dk_at dksX1_mixCode_0 0 rfl rfl)
theorem dX1_mixCode_1 : decode cX1_mixCode 1 = .ok (.invokevirtual 301, 3) := dk_182 1 45 (dk_at dksX1_mixCode_0 1 rfl rfl)
theorem dX1_mixCode_4 : decode cX1_mixCode 4 = .ok (.invokevirtual 317, 3) := dk_182 1 61 (dk_at dksX1_mixCode_0 4 rfl rfl)
theorem dX1_mixCode_7 : decode cX1_mixCode 7 = .ok (.astore_n 1, 1) := dk_76 (dk_at dksX1_mixCode_0 7 rfl rfl)
theorem dX1_mixCode_8 : decode cX1_mixCode 8 = .ok (.iconst 0, 1) := dk_3 (dk_at dksX1_mixCode_0 8 rfl rfl)
theorem dX1_mixCode_9 : decode cX1_mixCode 9 = .ok (.istore_n 2, 1) := dk_61 (dk_at dksX1_mixCode_0 9 rfl rfl)
theorem dX1_mixCode_10 : decode cX1_mixCode 10 = .ok (.iload_n 2, 1) := dk_28 (dk_at dksX1_mixCode_0 10 rfl rfl)
theorem dX1_mixCode_11 : decode cX1_mixCode 11 = .ok (.bipush 64, 2) := dk_16 64 (dk_at dksX1_mixCode_0 11 rfl rfl)
theorem dX1_mixCode_13 : decode cX1_mixCode 13 = .ok (.if_icmp .ge 17, 3) := dk_162 0 17 (dk_at dksX1_mixCode_0 13 rfl rfl)
theorem dX1_mixCode_16 : decode cX1_mixCode 16 = .ok (.aload_n 0, 1) := dk_42 (dk_at dksX1_mixCode_0 16 rfl rfl)
theorem dX1_mixCode_17 : decode cX1_mixCode 17 = .ok (.aload_n 1, 1) := dk_43 (dk_at dksX1_mixCode_0 17 rfl rfl)
theorem dX1_mixCode_18 : decode cX1_mixCode 18 = .ok (.iload_n 2, 1) := dk_28 (dk_at dksX1_mixCode_0 18 rfl rfl)
theorem dX1_mixCode_19 : decode cX1_mixCode 19 = .ok (.iaload, 1) := dk_46 (dk_at dksX1_mixCode_0 19 rfl rfl)
theorem dX1_mixCode_20 : decode cX1_mixCode 20 = .ok (.i2l, 1) := dk_133 (dk_at dksX1_mixCode_0 20 rfl rfl)
theorem dX1_mixCode_21 : decode cX1_mixCode 21 = .ok (.invokevirtual 345, 3) := dk_182 1 89 (dk_at dksX1_mixCode_0 21 rfl rfl)
theorem dX1_mixCode_24 : decode cX1_mixCode 24 = .ok (.iinc 2 1, 3) := dk_132 2 1 (dk_at dksX1_mixCode_1 0 rfl rfl)
theorem dX1_mixCode_27 : decode cX1_mixCode 27 = .ok (.goto (-17), 3) := dk_167 255 239 (dk_at dksX1_mixCode_1 3 rfl rfl)
theorem dX1_mixCode_30 : decode cX1_mixCode 30 = .ok (.iconst 1, 1) := dk_4 (dk_at dksX1_mixCode_1 6 rfl rfl)
theorem dX1_mixCode_31 : decode cX1_mixCode 31 = .ok (.istore_n 2, 1) := dk_61 (dk_at dksX1_mixCode_1 7 rfl rfl)
theorem dX1_mixCode_32 : decode cX1_mixCode 32 = .ok (.iload_n 2, 1) := dk_28 (dk_at dksX1_mixCode_1 8 rfl rfl)
theorem dX1_mixCode_33 : decode cX1_mixCode 33 = .ok (.iconst 3, 1) := dk_6 (dk_at dksX1_mixCode_1 9 rfl rfl)
theorem dX1_mixCode_34 : decode cX1_mixCode 34 = .ok (.if_icmp .gt 19, 3) := dk_163 0 19 (dk_at dksX1_mixCode_1 10 rfl rfl)
theorem dX1_mixCode_37 : decode cX1_mixCode 37 = .ok (.aload_n 0, 1) := dk_42 (dk_at dksX1_mixCode_1 13 rfl rfl)
theorem dX1_mixCode_38 : decode cX1_mixCode 38 = .ok (.aload_n 0, 1) := dk_42 (dk_at dksX1_mixCode_1 14 rfl rfl)
theorem dX1_mixCode_39 : decode cX1_mixCode 39 = .ok (.iload_n 2, 1) := dk_28 (dk_at dksX1_mixCode_1 15 rfl rfl)
theorem dX1_mixCode_40 : decode cX1_mixCode 40 = .ok (.invokevirtual 327, 3) := dk_182 1 71 (dk_at dksX1_mixCode_1 16 rfl rfl)
theorem dX1_mixCode_43 : decode cX1_mixCode 43 = .ok (.i2l, 1) := dk_133 (dk_at dksX1_mixCode_1 19 rfl rfl)
theorem dX1_mixCode_44 : decode cX1_mixCode 44 = .ok (.invokevirtual 345, 3) := dk_182 1 89 (dk_at dksX1_mixCode_1 20 rfl rfl)
theorem dX1_mixCode_47 : decode cX1_mixCode 47 = .ok (.iinc 2 1, 3) := dk_132 2 1 (dk_at dksX1_mixCode_2 0 rfl rfl)
theorem dX1_mixCode_50 : decode cX1_mixCode 50 = .ok (.goto (-18), 3) := dk_167 255 238 (dk_at dksX1_mixCode_2 3 rfl rfl)
theorem dX1_mixCode_53 : decode cX1_mixCode 53 = .ok (.return_, 1) := dk_177 (dk_at dksX1_mixCode_2 6 rfl rfl)
abbrev cX1_lengthWith : ByteArray := prog_1_method_73_code
def yX1_lengthWith : MethodName := ⟨RX1, "lengthWith", "(I)I"⟩
def dkwX1_lengthWith_1 : List UInt8 := [180, 0, 25, 27, 4, 100, 50, 182, 1, 41, 180, 1, 49, 172]
abbrev dktX1_lengthWith_1 : List UInt8 := dkwX1_lengthWith_1 ++ []
def dkwX1_lengthWith_0 : List UInt8 := [42, 180, 0, 46, 42, 180, 0, 32, 42, 180, 0, 16, 180, 0, 114, 42, 180, 0, 54, 27, 182, 0, 117, 42]
abbrev dktX1_lengthWith_0 : List UInt8 := dkwX1_lengthWith_0 ++ dktX1_lengthWith_1
theorem dksX1_lengthWith_0 : cX1_lengthWith.data.toList.drop 0 = dktX1_lengthWith_0 := by decide +kernel
theorem dksX1_lengthWith_1 : cX1_lengthWith.data.toList.drop 24 = dktX1_lengthWith_1 := dk_seg dksX1_lengthWith_0 24 rfl rfl
theorem dX1_lengthWith_0 : decode cX1_lengthWith 0 = .ok (.aload_n 0, 1) := dk_42 (dk_at dksX1_lengthWith_0 0 rfl rfl)
theorem dX1_lengthWith_1 : decode cX1_lengthWith 1 = .ok (.getfield 46, 3) := dk_180 0 46 (dk_at dksX1_lengthWith_0 1 rfl rfl)
theorem dX1_lengthWith_4 : decode cX1_lengthWith 4 = .ok (.aload_n 0, 1) := dk_42 (dk_at dksX1_lengthWith_0 4 rfl rfl)
theorem dX1_lengthWith_5 : decode cX1_lengthWith 5 = .ok (.getfield 32, 3) := dk_180 0 32 (dk_at dksX1_lengthWith_0 5 rfl rfl)
theorem dX1_lengthWith_8 : decode cX1_lengthWith 8 = .ok (.aload_n 0, 1) := dk_42 (dk_at dksX1_lengthWith_0 8 rfl rfl)
theorem dX1_lengthWith_9 : decode cX1_lengthWith 9 = .ok (.getfield 16, 3) := dk_180 0 16 (dk_at dksX1_lengthWith_0 9 rfl rfl)
theorem dX1_lengthWith_12 : decode cX1_lengthWith 12 = .ok (.getfield 114, 3) := dk_180 0 114 (dk_at dksX1_lengthWith_0 12 rfl rfl)
theorem dX1_lengthWith_15 : decode cX1_lengthWith 15 = .ok (.aload_n 0, 1) := dk_42 (dk_at dksX1_lengthWith_0 15 rfl rfl)
theorem dX1_lengthWith_16 : decode cX1_lengthWith 16 = .ok (.getfield 54, 3) := dk_180 0 54 (dk_at dksX1_lengthWith_0 16 rfl rfl)
theorem dX1_lengthWith_19 : decode cX1_lengthWith 19 = .ok (.iload_n 1, 1) := dk_27 (dk_at dksX1_lengthWith_0 19 rfl rfl)
theorem dX1_lengthWith_20 : decode cX1_lengthWith 20 = .ok (.invokevirtual 117, 3) := dk_182 0 117 (dk_at dksX1_lengthWith_0 20 rfl rfl)
theorem dX1_lengthWith_23 : decode cX1_lengthWith 23 = .ok (.aload_n 0, 1) := dk_42 (dk_at dksX1_lengthWith_0 23 rfl rfl)
theorem dX1_lengthWith_24 : decode cX1_lengthWith 24 = .ok (.getfield 25, 3) := dk_180 0 25 (dk_at dksX1_lengthWith_1 0 rfl rfl)
theorem dX1_lengthWith_27 : decode cX1_lengthWith 27 = .ok (.iload_n 1, 1) := dk_27 (dk_at dksX1_lengthWith_1 3 rfl rfl)
theorem dX1_lengthWith_28 : decode cX1_lengthWith 28 = .ok (.iconst 1, 1) := dk_4 (dk_at dksX1_lengthWith_1 4 rfl rfl)
theorem dX1_lengthWith_29 : decode cX1_lengthWith 29 = .ok (.isub, 1) := dk_100 (dk_at dksX1_lengthWith_1 5 rfl rfl)
theorem dX1_lengthWith_30 : decode cX1_lengthWith 30 = .ok (.aaload, 1) := dk_50 (dk_at dksX1_lengthWith_1 6 rfl rfl)
theorem dX1_lengthWith_31 : decode cX1_lengthWith 31 = .ok (.invokevirtual 297, 3) := dk_182 1 41 (dk_at dksX1_lengthWith_1 7 rfl rfl)
theorem dX1_lengthWith_34 : decode cX1_lengthWith 34 = .ok (.getfield 305, 3) := dk_180 1 49 (dk_at dksX1_lengthWith_1 10 rfl rfl)
theorem dX1_lengthWith_37 : decode cX1_lengthWith 37 = .ok (.ireturn, 1) := dk_172 (dk_at dksX1_lengthWith_1 13 rfl rfl)
abbrev cX1_mixIf : ByteArray := prog_1_method_80_code
def yX1_mixIf : MethodName := ⟨RX1, "mixIf", "(Z)V"⟩
def dkwX1_mixIf_0 : List UInt8 := [42, 27, 153, 0, 7, 10, 167, 0, 4, 9, 182, 1, 89, 177]
abbrev dktX1_mixIf_0 : List UInt8 := dkwX1_mixIf_0 ++ []
theorem dksX1_mixIf_0 : cX1_mixIf.data.toList.drop 0 = dktX1_mixIf_0 := by decide +kernel
theorem dX1_mixIf_0 : decode cX1_mixIf 0 = .ok (.aload_n 0, 1) := dk_42 (dk_at dksX1_mixIf_0 0 rfl rfl)
theorem dX1_mixIf_1 : decode cX1_mixIf 1 = .ok (.iload_n 1, 1) := dk_27 (dk_at dksX1_mixIf_0 1 rfl rfl)
theorem dX1_mixIf_2 : decode cX1_mixIf 2 = .ok (.ifCond .eq 7, 3) := dk_153 0 7 (dk_at dksX1_mixIf_0 2 rfl rfl)
theorem dX1_mixIf_5 : decode cX1_mixIf 5 = .ok (.lconst 1, 1) := dk_10 (dk_at dksX1_mixIf_0 5 rfl rfl)
theorem dX1_mixIf_6 : decode cX1_mixIf 6 = .ok (.goto 4, 3) := dk_167 0 4 (dk_at dksX1_mixIf_0 6 rfl rfl)
theorem dX1_mixIf_9 : decode cX1_mixIf 9 = .ok (.lconst 0, 1) := dk_9 (dk_at dksX1_mixIf_0 9 rfl rfl)
theorem dX1_mixIf_10 : decode cX1_mixIf 10 = .ok (.invokevirtual 345, 3) := dk_182 1 89 (dk_at dksX1_mixIf_0 10 rfl rfl)
theorem dX1_mixIf_13 : decode cX1_mixIf 13 = .ok (.return_, 1) := dk_177 (dk_at dksX1_mixIf_0 13 rfl rfl)
abbrev cX1_setShade : ByteArray := prog_1_method_16_code
def yX1_setShade : MethodName := ⟨RX1, "setShade", "(III)I"⟩
def dkwX1_setShade_1 : List UInt8 := [182, 0, 130, 172]
abbrev dktX1_setShade_1 : List UInt8 := dkwX1_setShade_1 ++ []
def dkwX1_setShade_0 : List UInt8 := [27, 28, 184, 0, 121, 54, 4, 29, 184, 0, 124, 42, 182, 0, 127, 42, 180, 0, 16, 21, 4, 29]
abbrev dktX1_setShade_0 : List UInt8 := dkwX1_setShade_0 ++ dktX1_setShade_1
theorem dksX1_setShade_0 : cX1_setShade.data.toList.drop 0 = dktX1_setShade_0 := by decide +kernel
theorem dksX1_setShade_1 : cX1_setShade.data.toList.drop 22 = dktX1_setShade_1 := dk_seg dksX1_setShade_0 22 rfl rfl
theorem dX1_setShade_0 : decode cX1_setShade 0 = .ok (.iload_n 1, 1) := dk_27 (dk_at dksX1_setShade_0 0 rfl rfl)
theorem dX1_setShade_1 : decode cX1_setShade 1 = .ok (.iload_n 2, 1) := dk_28 (dk_at dksX1_setShade_0 1 rfl rfl)
theorem dX1_setShade_2 : decode cX1_setShade 2 = .ok (.invokestatic 121, 3) := dk_184 0 121 (dk_at dksX1_setShade_0 2 rfl rfl)
theorem dX1_setShade_5 : decode cX1_setShade 5 = .ok (.istore 4, 2) := dk_54 4 (dk_at dksX1_setShade_0 5 rfl rfl)
theorem dX1_setShade_7 : decode cX1_setShade 7 = .ok (.iload_n 3, 1) := dk_29 (dk_at dksX1_setShade_0 7 rfl rfl)
theorem dX1_setShade_8 : decode cX1_setShade 8 = .ok (.invokestatic 124, 3) := dk_184 0 124 (dk_at dksX1_setShade_0 8 rfl rfl)
theorem dX1_setShade_11 : decode cX1_setShade 11 = .ok (.aload_n 0, 1) := dk_42 (dk_at dksX1_setShade_0 11 rfl rfl)
theorem dX1_setShade_12 : decode cX1_setShade 12 = .ok (.invokevirtual 127, 3) := dk_182 0 127 (dk_at dksX1_setShade_0 12 rfl rfl)
theorem dX1_setShade_15 : decode cX1_setShade 15 = .ok (.aload_n 0, 1) := dk_42 (dk_at dksX1_setShade_0 15 rfl rfl)
theorem dX1_setShade_16 : decode cX1_setShade 16 = .ok (.getfield 16, 3) := dk_180 0 16 (dk_at dksX1_setShade_0 16 rfl rfl)
theorem dX1_setShade_19 : decode cX1_setShade 19 = .ok (.iload 4, 2) := dk_21 4 (dk_at dksX1_setShade_0 19 rfl rfl)
theorem dX1_setShade_21 : decode cX1_setShade 21 = .ok (.iload_n 3, 1) := dk_29 (dk_at dksX1_setShade_0 21 rfl rfl)
theorem dX1_setShade_22 : decode cX1_setShade 22 = .ok (.invokevirtual 130, 3) := dk_182 0 130 (dk_at dksX1_setShade_1 0 rfl rfl)
theorem dX1_setShade_25 : decode cX1_setShade 25 = .ok (.ireturn, 1) := dk_172 (dk_at dksX1_setShade_1 3 rfl rfl)
abbrev cX1_cellBy : ByteArray := prog_1_method_11_code
def yX1_cellBy : MethodName := ⟨RX1, "cellBy", "(II)I"⟩
def dkwX1_cellBy_1 : List UInt8 := [3, 184, 0, 103, 16, 8, 26, 104, 27, 96, 172]
abbrev dktX1_cellBy_1 : List UInt8 := dkwX1_cellBy_1 ++ []
def dkwX1_cellBy_0 : List UInt8 := [26, 3, 16, 7, 184, 0, 99, 153, 0, 17, 27, 3, 16, 7, 184, 0, 99, 153, 0, 7, 4, 167, 0, 4]
abbrev dktX1_cellBy_0 : List UInt8 := dkwX1_cellBy_0 ++ dktX1_cellBy_1
theorem dksX1_cellBy_0 : cX1_cellBy.data.toList.drop 0 = dktX1_cellBy_0 := by decide +kernel
theorem dksX1_cellBy_1 : cX1_cellBy.data.toList.drop 24 = dktX1_cellBy_1 := dk_seg dksX1_cellBy_0 24 rfl rfl
theorem dX1_cellBy_0 : decode cX1_cellBy 0 = .ok (.iload_n 0, 1) := dk_26 (dk_at dksX1_cellBy_0 0 rfl rfl)
theorem dX1_cellBy_1 : decode cX1_cellBy 1 = .ok (.iconst 0, 1) := dk_3 (dk_at dksX1_cellBy_0 1 rfl rfl)
theorem dX1_cellBy_2 : decode cX1_cellBy 2 = .ok (.bipush 7, 2) := dk_16 7 (dk_at dksX1_cellBy_0 2 rfl rfl)
theorem dX1_cellBy_4 : decode cX1_cellBy 4 = .ok (.invokestatic 99, 3) := dk_184 0 99 (dk_at dksX1_cellBy_0 4 rfl rfl)
theorem dX1_cellBy_7 : decode cX1_cellBy 7 = .ok (.ifCond .eq 17, 3) := dk_153 0 17 (dk_at dksX1_cellBy_0 7 rfl rfl)
theorem dX1_cellBy_10 : decode cX1_cellBy 10 = .ok (.iload_n 1, 1) := dk_27 (dk_at dksX1_cellBy_0 10 rfl rfl)
theorem dX1_cellBy_11 : decode cX1_cellBy 11 = .ok (.iconst 0, 1) := dk_3 (dk_at dksX1_cellBy_0 11 rfl rfl)
theorem dX1_cellBy_12 : decode cX1_cellBy 12 = .ok (.bipush 7, 2) := dk_16 7 (dk_at dksX1_cellBy_0 12 rfl rfl)
theorem dX1_cellBy_14 : decode cX1_cellBy 14 = .ok (.invokestatic 99, 3) := dk_184 0 99 (dk_at dksX1_cellBy_0 14 rfl rfl)
theorem dX1_cellBy_17 : decode cX1_cellBy 17 = .ok (.ifCond .eq 7, 3) := dk_153 0 7 (dk_at dksX1_cellBy_0 17 rfl rfl)
theorem dX1_cellBy_20 : decode cX1_cellBy 20 = .ok (.iconst 1, 1) := dk_4 (dk_at dksX1_cellBy_0 20 rfl rfl)
theorem dX1_cellBy_21 : decode cX1_cellBy 21 = .ok (.goto 4, 3) := dk_167 0 4 (dk_at dksX1_cellBy_0 21 rfl rfl)
theorem dX1_cellBy_24 : decode cX1_cellBy 24 = .ok (.iconst 0, 1) := dk_3 (dk_at dksX1_cellBy_1 0 rfl rfl)
theorem dX1_cellBy_25 : decode cX1_cellBy 25 = .ok (.invokestatic 103, 3) := dk_184 0 103 (dk_at dksX1_cellBy_1 1 rfl rfl)
theorem dX1_cellBy_28 : decode cX1_cellBy 28 = .ok (.bipush 8, 2) := dk_16 8 (dk_at dksX1_cellBy_1 4 rfl rfl)
theorem dX1_cellBy_30 : decode cX1_cellBy 30 = .ok (.iload_n 0, 1) := dk_26 (dk_at dksX1_cellBy_1 6 rfl rfl)
theorem dX1_cellBy_31 : decode cX1_cellBy 31 = .ok (.imul, 1) := dk_104 (dk_at dksX1_cellBy_1 7 rfl rfl)
theorem dX1_cellBy_32 : decode cX1_cellBy 32 = .ok (.iload_n 1, 1) := dk_27 (dk_at dksX1_cellBy_1 8 rfl rfl)
theorem dX1_cellBy_33 : decode cX1_cellBy 33 = .ok (.iadd, 1) := dk_96 (dk_at dksX1_cellBy_1 9 rfl rfl)
theorem dX1_cellBy_34 : decode cX1_cellBy 34 = .ok (.ireturn, 1) := dk_172 (dk_at dksX1_cellBy_1 10 rfl rfl)
abbrev cX1_needIndex : ByteArray := prog_1_method_9_code
def yX1_needIndex : MethodName := ⟨RX1, "needIndex", "(Z)V"⟩
def dkwX1_needIndex_0 : List UInt8 := [26, 154, 0, 11, 187, 0, 93, 89, 183, 0, 95, 191, 177]
abbrev dktX1_needIndex_0 : List UInt8 := dkwX1_needIndex_0 ++ []
theorem dksX1_needIndex_0 : cX1_needIndex.data.toList.drop 0 = dktX1_needIndex_0 := by decide +kernel
theorem dX1_needIndex_0 : decode cX1_needIndex 0 = .ok (.iload_n 0, 1) := dk_26 (dk_at dksX1_needIndex_0 0 rfl rfl)
theorem dX1_needIndex_1 : decode cX1_needIndex 1 = .ok (.ifCond .ne 11, 3) := dk_154 0 11 (dk_at dksX1_needIndex_0 1 rfl rfl)
theorem dX1_needIndex_4 : decode cX1_needIndex 4 = .ok (.new 93, 3) := dk_187 0 93 (dk_at dksX1_needIndex_0 4 rfl rfl)
theorem dX1_needIndex_7 : decode cX1_needIndex 7 = .ok (.dup, 1) := dk_89 (dk_at dksX1_needIndex_0 7 rfl rfl)
theorem dX1_needIndex_8 : decode cX1_needIndex 8 = .ok (.invokespecial 95, 3) := dk_183 0 95 (dk_at dksX1_needIndex_0 8 rfl rfl)
theorem dX1_needIndex_11 : decode cX1_needIndex 11 = .ok (.athrow, 1) := dk_191 (dk_at dksX1_needIndex_0 11 rfl rfl)
theorem dX1_needIndex_12 : decode cX1_needIndex 12 = .ok (.return_, 1) := dk_177 (dk_at dksX1_needIndex_0 12 rfl rfl)
abbrev cX1_needShade : ByteArray := prog_1_method_12_code
def yX1_needShade : MethodName := ⟨RX1, "needShade", "(I)V"⟩
def dkwX1_needShade_0 : List UInt8 := [26, 3, 17, 0, 255, 184, 0, 99, 184, 0, 107, 177]
abbrev dktX1_needShade_0 : List UInt8 := dkwX1_needShade_0 ++ []
theorem dksX1_needShade_0 : cX1_needShade.data.toList.drop 0 = dktX1_needShade_0 := by decide +kernel
theorem dX1_needShade_0 : decode cX1_needShade 0 = .ok (.iload_n 0, 1) := dk_26 (dk_at dksX1_needShade_0 0 rfl rfl)
theorem dX1_needShade_1 : decode cX1_needShade 1 = .ok (.iconst 0, 1) := dk_3 (dk_at dksX1_needShade_0 1 rfl rfl)
theorem dX1_needShade_2 : decode cX1_needShade 2 = .ok (.sipush 255, 3) := dk_17 0 255 (dk_at dksX1_needShade_0 2 rfl rfl)
theorem dX1_needShade_5 : decode cX1_needShade 5 = .ok (.invokestatic 99, 3) := dk_184 0 99 (dk_at dksX1_needShade_0 5 rfl rfl)
theorem dX1_needShade_8 : decode cX1_needShade 8 = .ok (.invokestatic 107, 3) := dk_184 0 107 (dk_at dksX1_needShade_0 8 rfl rfl)
theorem dX1_needShade_11 : decode cX1_needShade 11 = .ok (.return_, 1) := dk_177 (dk_at dksX1_needShade_0 11 rfl rfl)
abbrev cX1_need : ByteArray := prog_1_method_8_code
def yX1_need : MethodName := ⟨RX1, "need", "(Z)V"⟩
def dkwX1_need_0 : List UInt8 := [26, 154, 0, 11, 187, 0, 90, 89, 183, 0, 92, 191, 177]
abbrev dktX1_need_0 : List UInt8 := dkwX1_need_0 ++ []
theorem dksX1_need_0 : cX1_need.data.toList.drop 0 = dktX1_need_0 := by decide +kernel
theorem dX1_need_0 : decode cX1_need 0 = .ok (.iload_n 0, 1) := dk_26 (dk_at dksX1_need_0 0 rfl rfl)
theorem dX1_need_1 : decode cX1_need 1 = .ok (.ifCond .ne 11, 3) := dk_154 0 11 (dk_at dksX1_need_0 1 rfl rfl)
theorem dX1_need_4 : decode cX1_need 4 = .ok (.new 90, 3) := dk_187 0 90 (dk_at dksX1_need_0 4 rfl rfl)
theorem dX1_need_7 : decode cX1_need 7 = .ok (.dup, 1) := dk_89 (dk_at dksX1_need_0 7 rfl rfl)
theorem dX1_need_8 : decode cX1_need 8 = .ok (.invokespecial 92, 3) := dk_183 0 92 (dk_at dksX1_need_0 8 rfl rfl)
theorem dX1_need_11 : decode cX1_need 11 = .ok (.athrow, 1) := dk_191 (dk_at dksX1_need_0 11 rfl rfl)
theorem dX1_need_12 : decode cX1_need 12 = .ok (.return_, 1) := dk_177 (dk_at dksX1_need_0 12 rfl rfl)
abbrev cX1_fillRow : ByteArray := prog_1_method_17_code
def yX1_fillRow : MethodName := ⟨RX1, "fillRow", "(III)I"⟩
def dkwX1_fillRow_2 : List UInt8 := [17, 0, 255, 184, 0, 99, 184, 0, 133, 42, 182, 0, 127, 42, 180, 0, 16, 27, 28, 29, 182, 0, 136, 172]
abbrev dktX1_fillRow_2 : List UInt8 := dkwX1_fillRow_2 ++ []
def dkwX1_fillRow_1 : List UInt8 := [16, 36, 184, 0, 99, 153, 0, 7, 4, 167, 0, 4, 3, 184, 0, 107, 28, 16, 7, 29, 104, 96, 3]
abbrev dktX1_fillRow_1 : List UInt8 := dkwX1_fillRow_1 ++ dktX1_fillRow_2
def dkwX1_fillRow_0 : List UInt8 := [27, 3, 16, 7, 184, 0, 99, 184, 0, 103, 28, 3, 17, 0, 255, 184, 0, 99, 153, 0, 18, 29, 16, 220]
abbrev dktX1_fillRow_0 : List UInt8 := dkwX1_fillRow_0 ++ dktX1_fillRow_1
theorem dksX1_fillRow_0 : cX1_fillRow.data.toList.drop 0 = dktX1_fillRow_0 := by decide +kernel
theorem dksX1_fillRow_1 : cX1_fillRow.data.toList.drop 24 = dktX1_fillRow_1 := dk_seg dksX1_fillRow_0 24 rfl rfl
theorem dksX1_fillRow_2 : cX1_fillRow.data.toList.drop 47 = dktX1_fillRow_2 := dk_seg dksX1_fillRow_1 23 rfl rfl
theorem dX1_fillRow_0 : decode cX1_fillRow 0 = .ok (.iload_n 1, 1) := dk_27 (dk_at dksX1_fillRow_0 0 rfl rfl)
theorem dX1_fillRow_1 : decode cX1_fillRow 1 = .ok (.iconst 0, 1) := dk_3 (dk_at dksX1_fillRow_0 1 rfl rfl)
theorem dX1_fillRow_2 : decode cX1_fillRow 2 = .ok (.bipush 7, 2) := dk_16 7 (dk_at dksX1_fillRow_0 2 rfl rfl)
theorem dX1_fillRow_4 : decode cX1_fillRow 4 = .ok (.invokestatic 99, 3) := dk_184 0 99 (dk_at dksX1_fillRow_0 4 rfl rfl)
theorem dX1_fillRow_7 : decode cX1_fillRow 7 = .ok (.invokestatic 103, 3) := dk_184 0 103 (dk_at dksX1_fillRow_0 7 rfl rfl)
theorem dX1_fillRow_10 : decode cX1_fillRow 10 = .ok (.iload_n 2, 1) := dk_28 (dk_at dksX1_fillRow_0 10 rfl rfl)
theorem dX1_fillRow_11 : decode cX1_fillRow 11 = .ok (.iconst 0, 1) := dk_3 (dk_at dksX1_fillRow_0 11 rfl rfl)
theorem dX1_fillRow_12 : decode cX1_fillRow 12 = .ok (.sipush 255, 3) := dk_17 0 255 (dk_at dksX1_fillRow_0 12 rfl rfl)
theorem dX1_fillRow_15 : decode cX1_fillRow 15 = .ok (.invokestatic 99, 3) := dk_184 0 99 (dk_at dksX1_fillRow_0 15 rfl rfl)
theorem dX1_fillRow_18 : decode cX1_fillRow 18 = .ok (.ifCond .eq 18, 3) := dk_153 0 18 (dk_at dksX1_fillRow_0 18 rfl rfl)
theorem dX1_fillRow_21 : decode cX1_fillRow 21 = .ok (.iload_n 3, 1) := dk_29 (dk_at dksX1_fillRow_0 21 rfl rfl)
theorem dX1_fillRow_22 : decode cX1_fillRow 22 = .ok (.bipush (-36), 2) := dk_16 220 (dk_at dksX1_fillRow_0 22 rfl rfl)
theorem dX1_fillRow_24 : decode cX1_fillRow 24 = .ok (.bipush 36, 2) := dk_16 36 (dk_at dksX1_fillRow_1 0 rfl rfl)
theorem dX1_fillRow_26 : decode cX1_fillRow 26 = .ok (.invokestatic 99, 3) := dk_184 0 99 (dk_at dksX1_fillRow_1 2 rfl rfl)
theorem dX1_fillRow_29 : decode cX1_fillRow 29 = .ok (.ifCond .eq 7, 3) := dk_153 0 7 (dk_at dksX1_fillRow_1 5 rfl rfl)
theorem dX1_fillRow_32 : decode cX1_fillRow 32 = .ok (.iconst 1, 1) := dk_4 (dk_at dksX1_fillRow_1 8 rfl rfl)
theorem dX1_fillRow_33 : decode cX1_fillRow 33 = .ok (.goto 4, 3) := dk_167 0 4 (dk_at dksX1_fillRow_1 9 rfl rfl)
theorem dX1_fillRow_36 : decode cX1_fillRow 36 = .ok (.iconst 0, 1) := dk_3 (dk_at dksX1_fillRow_1 12 rfl rfl)
theorem dX1_fillRow_37 : decode cX1_fillRow 37 = .ok (.invokestatic 107, 3) := dk_184 0 107 (dk_at dksX1_fillRow_1 13 rfl rfl)
theorem dX1_fillRow_40 : decode cX1_fillRow 40 = .ok (.iload_n 2, 1) := dk_28 (dk_at dksX1_fillRow_1 16 rfl rfl)
theorem dX1_fillRow_41 : decode cX1_fillRow 41 = .ok (.bipush 7, 2) := dk_16 7 (dk_at dksX1_fillRow_1 17 rfl rfl)
theorem dX1_fillRow_43 : decode cX1_fillRow 43 = .ok (.iload_n 3, 1) := dk_29 (dk_at dksX1_fillRow_1 19 rfl rfl)
theorem dX1_fillRow_44 : decode cX1_fillRow 44 = .ok (.imul, 1) := dk_104 (dk_at dksX1_fillRow_1 20 rfl rfl)
theorem dX1_fillRow_45 : decode cX1_fillRow 45 = .ok (.iadd, 1) := dk_96 (dk_at dksX1_fillRow_1 21 rfl rfl)
theorem dX1_fillRow_46 : decode cX1_fillRow 46 = .ok (.iconst 0, 1) := dk_3 (dk_at dksX1_fillRow_1 22 rfl rfl)
theorem dX1_fillRow_47 : decode cX1_fillRow 47 = .ok (.sipush 255, 3) := dk_17 0 255 (dk_at dksX1_fillRow_2 0 rfl rfl)
theorem dX1_fillRow_50 : decode cX1_fillRow 50 = .ok (.invokestatic 99, 3) := dk_184 0 99 (dk_at dksX1_fillRow_2 3 rfl rfl)
theorem dX1_fillRow_53 : decode cX1_fillRow 53 = .ok (.invokestatic 133, 3) := dk_184 0 133 (dk_at dksX1_fillRow_2 6 rfl rfl)
theorem dX1_fillRow_56 : decode cX1_fillRow 56 = .ok (.aload_n 0, 1) := dk_42 (dk_at dksX1_fillRow_2 9 rfl rfl)
theorem dX1_fillRow_57 : decode cX1_fillRow 57 = .ok (.invokevirtual 127, 3) := dk_182 0 127 (dk_at dksX1_fillRow_2 10 rfl rfl)
theorem dX1_fillRow_60 : decode cX1_fillRow 60 = .ok (.aload_n 0, 1) := dk_42 (dk_at dksX1_fillRow_2 13 rfl rfl)
theorem dX1_fillRow_61 : decode cX1_fillRow 61 = .ok (.getfield 16, 3) := dk_180 0 16 (dk_at dksX1_fillRow_2 14 rfl rfl)
theorem dX1_fillRow_64 : decode cX1_fillRow 64 = .ok (.iload_n 1, 1) := dk_27 (dk_at dksX1_fillRow_2 17 rfl rfl)
theorem dX1_fillRow_65 : decode cX1_fillRow 65 = .ok (.iload_n 2, 1) := dk_28 (dk_at dksX1_fillRow_2 18 rfl rfl)
theorem dX1_fillRow_66 : decode cX1_fillRow 66 = .ok (.iload_n 3, 1) := dk_29 (dk_at dksX1_fillRow_2 19 rfl rfl)
theorem dX1_fillRow_67 : decode cX1_fillRow 67 = .ok (.invokevirtual 136, 3) := dk_182 0 136 (dk_at dksX1_fillRow_2 20 rfl rfl)
theorem dX1_fillRow_70 : decode cX1_fillRow 70 = .ok (.ireturn, 1) := dk_172 (dk_at dksX1_fillRow_2 23 rfl rfl)
abbrev cX1_needState : ByteArray := prog_1_method_10_code
def yX1_needState : MethodName := ⟨RX1, "needState", "(Z)V"⟩
def dkwX1_needState_0 : List UInt8 := [26, 154, 0, 11, 187, 0, 96, 89, 183, 0, 98, 191, 177]
abbrev dktX1_needState_0 : List UInt8 := dkwX1_needState_0 ++ []
theorem dksX1_needState_0 : cX1_needState.data.toList.drop 0 = dktX1_needState_0 := by decide +kernel
theorem dX1_needState_0 : decode cX1_needState 0 = .ok (.iload_n 0, 1) := dk_26 (dk_at dksX1_needState_0 0 rfl rfl)
theorem dX1_needState_1 : decode cX1_needState 1 = .ok (.ifCond .ne 11, 3) := dk_154 0 11 (dk_at dksX1_needState_0 1 rfl rfl)
theorem dX1_needState_4 : decode cX1_needState 4 = .ok (.new 96, 3) := dk_187 0 96 (dk_at dksX1_needState_0 4 rfl rfl)
theorem dX1_needState_7 : decode cX1_needState 7 = .ok (.dup, 1) := dk_89 (dk_at dksX1_needState_0 7 rfl rfl)
theorem dX1_needState_8 : decode cX1_needState 8 = .ok (.invokespecial 98, 3) := dk_183 0 98 (dk_at dksX1_needState_0 8 rfl rfl)
theorem dX1_needState_11 : decode cX1_needState 11 = .ok (.athrow, 1) := dk_191 (dk_at dksX1_needState_0 11 rfl rfl)
theorem dX1_needState_12 : decode cX1_needState 12 = .ok (.return_, 1) := dk_177 (dk_at dksX1_needState_0 12 rfl rfl)
abbrev cX1_setPart : ByteArray := prog_1_method_19_code
def yX1_setPart : MethodName := ⟨RX1, "setPart", "(III)I"⟩
def dkwX1_setPart_2 : List UInt8 := [180, 0, 50, 21, 4, 46, 172]
abbrev dktX1_setPart_2 : List UInt8 := dkwX1_setPart_2 ++ []
def dkwX1_setPart_1 : List UInt8 := [182, 0, 153, 184, 0, 133, 42, 182, 0, 127, 42, 180, 0, 16, 42, 180, 0, 57, 182, 0, 157, 87, 42]
abbrev dktX1_setPart_1 : List UInt8 := dkwX1_setPart_1 ++ dktX1_setPart_2
def dkwX1_setPart_0 : List UInt8 := [27, 28, 184, 0, 121, 54, 4, 29, 17, 255, 1, 17, 0, 255, 184, 0, 99, 184, 0, 107, 42, 21, 4, 29]
abbrev dktX1_setPart_0 : List UInt8 := dkwX1_setPart_0 ++ dktX1_setPart_1
theorem dksX1_setPart_0 : cX1_setPart.data.toList.drop 0 = dktX1_setPart_0 := by decide +kernel
theorem dksX1_setPart_1 : cX1_setPart.data.toList.drop 24 = dktX1_setPart_1 := dk_seg dksX1_setPart_0 24 rfl rfl
theorem dksX1_setPart_2 : cX1_setPart.data.toList.drop 47 = dktX1_setPart_2 := dk_seg dksX1_setPart_1 23 rfl rfl
theorem dX1_setPart_0 : decode cX1_setPart 0 = .ok (.iload_n 1, 1) := dk_27 (dk_at dksX1_setPart_0 0 rfl rfl)
theorem dX1_setPart_1 : decode cX1_setPart 1 = .ok (.iload_n 2, 1) := dk_28 (dk_at dksX1_setPart_0 1 rfl rfl)
theorem dX1_setPart_2 : decode cX1_setPart 2 = .ok (.invokestatic 121, 3) := dk_184 0 121 (dk_at dksX1_setPart_0 2 rfl rfl)
theorem dX1_setPart_5 : decode cX1_setPart 5 = .ok (.istore 4, 2) := dk_54 4 (dk_at dksX1_setPart_0 5 rfl rfl)
theorem dX1_setPart_7 : decode cX1_setPart 7 = .ok (.iload_n 3, 1) := dk_29 (dk_at dksX1_setPart_0 7 rfl rfl)
theorem dX1_setPart_8 : decode cX1_setPart 8 = .ok (.sipush (-255), 3) := dk_17 255 1 (dk_at dksX1_setPart_0 8 rfl rfl)
theorem dX1_setPart_11 : decode cX1_setPart 11 = .ok (.sipush 255, 3) := dk_17 0 255 (dk_at dksX1_setPart_0 11 rfl rfl)
theorem dX1_setPart_14 : decode cX1_setPart 14 = .ok (.invokestatic 99, 3) := dk_184 0 99 (dk_at dksX1_setPart_0 14 rfl rfl)
theorem dX1_setPart_17 : decode cX1_setPart 17 = .ok (.invokestatic 107, 3) := dk_184 0 107 (dk_at dksX1_setPart_0 17 rfl rfl)
theorem dX1_setPart_20 : decode cX1_setPart 20 = .ok (.aload_n 0, 1) := dk_42 (dk_at dksX1_setPart_0 20 rfl rfl)
theorem dX1_setPart_21 : decode cX1_setPart 21 = .ok (.iload 4, 2) := dk_21 4 (dk_at dksX1_setPart_0 21 rfl rfl)
theorem dX1_setPart_23 : decode cX1_setPart 23 = .ok (.iload_n 3, 1) := dk_29 (dk_at dksX1_setPart_0 23 rfl rfl)
theorem dX1_setPart_24 : decode cX1_setPart 24 = .ok (.invokevirtual 153, 3) := dk_182 0 153 (dk_at dksX1_setPart_1 0 rfl rfl)
theorem dX1_setPart_27 : decode cX1_setPart 27 = .ok (.invokestatic 133, 3) := dk_184 0 133 (dk_at dksX1_setPart_1 3 rfl rfl)
theorem dX1_setPart_30 : decode cX1_setPart 30 = .ok (.aload_n 0, 1) := dk_42 (dk_at dksX1_setPart_1 6 rfl rfl)
theorem dX1_setPart_31 : decode cX1_setPart 31 = .ok (.invokevirtual 127, 3) := dk_182 0 127 (dk_at dksX1_setPart_1 7 rfl rfl)
theorem dX1_setPart_34 : decode cX1_setPart 34 = .ok (.aload_n 0, 1) := dk_42 (dk_at dksX1_setPart_1 10 rfl rfl)
theorem dX1_setPart_35 : decode cX1_setPart 35 = .ok (.getfield 16, 3) := dk_180 0 16 (dk_at dksX1_setPart_1 11 rfl rfl)
theorem dX1_setPart_38 : decode cX1_setPart 38 = .ok (.aload_n 0, 1) := dk_42 (dk_at dksX1_setPart_1 14 rfl rfl)
theorem dX1_setPart_39 : decode cX1_setPart 39 = .ok (.getfield 57, 3) := dk_180 0 57 (dk_at dksX1_setPart_1 15 rfl rfl)
theorem dX1_setPart_42 : decode cX1_setPart 42 = .ok (.invokevirtual 157, 3) := dk_182 0 157 (dk_at dksX1_setPart_1 18 rfl rfl)
theorem dX1_setPart_45 : decode cX1_setPart 45 = .ok (.pop, 1) := dk_87 (dk_at dksX1_setPart_1 21 rfl rfl)
theorem dX1_setPart_46 : decode cX1_setPart 46 = .ok (.aload_n 0, 1) := dk_42 (dk_at dksX1_setPart_1 22 rfl rfl)
theorem dX1_setPart_47 : decode cX1_setPart 47 = .ok (.getfield 50, 3) := dk_180 0 50 (dk_at dksX1_setPart_2 0 rfl rfl)
theorem dX1_setPart_50 : decode cX1_setPart 50 = .ok (.iload 4, 2) := dk_21 4 (dk_at dksX1_setPart_2 3 rfl rfl)
theorem dX1_setPart_52 : decode cX1_setPart 52 = .ok (.iaload, 1) := dk_46 (dk_at dksX1_setPart_2 5 rfl rfl)
theorem dX1_setPart_53 : decode cX1_setPart 53 = .ok (.ireturn, 1) := dk_172 (dk_at dksX1_setPart_2 6 rfl rfl)
abbrev cX1_canSet : ByteArray := prog_1_method_18_code
def yX1_canSet : MethodName := ⟨RX1, "canSet", "(II)Z"⟩
def dkwX1_canSet_4 : List UInt8 := [172]
abbrev dktX1_canSet_4 : List UInt8 := dkwX1_canSet_4 ++ []
def dkwX1_canSet_3 : List UInt8 := [21, 6, 46, 54, 7, 29, 21, 7, 3, 17, 0, 255, 184, 0, 99, 126, 62, 132, 6, 1, 167, 255, 227, 29]
abbrev dktX1_canSet_3 : List UInt8 := dkwX1_canSet_3 ++ dktX1_canSet_4
def dkwX1_canSet_2 : List UInt8 := [42, 180, 0, 57, 58, 4, 25, 4, 190, 54, 5, 3, 54, 6, 21, 6, 21, 5, 162, 0, 28, 25, 4]
abbrev dktX1_canSet_2 : List UInt8 := dkwX1_canSet_2 ++ dktX1_canSet_3
def dkwX1_canSet_1 : List UInt8 := [180, 0, 32, 42, 180, 0, 54, 42, 180, 0, 57, 42, 180, 0, 16, 180, 0, 110, 182, 0, 150, 87, 4, 62]
abbrev dktX1_canSet_1 : List UInt8 := dkwX1_canSet_1 ++ dktX1_canSet_2
def dkwX1_canSet_0 : List UInt8 := [42, 182, 0, 140, 3, 42, 180, 0, 54, 3, 16, 64, 184, 0, 144, 42, 180, 0, 54, 27, 28, 79, 42]
abbrev dktX1_canSet_0 : List UInt8 := dkwX1_canSet_0 ++ dktX1_canSet_1
theorem dksX1_canSet_0 : cX1_canSet.data.toList.drop 0 = dktX1_canSet_0 := by decide +kernel
theorem dksX1_canSet_1 : cX1_canSet.data.toList.drop 23 = dktX1_canSet_1 := dk_seg dksX1_canSet_0 23 rfl rfl
theorem dksX1_canSet_2 : cX1_canSet.data.toList.drop 47 = dktX1_canSet_2 := dk_seg dksX1_canSet_1 24 rfl rfl
theorem dksX1_canSet_3 : cX1_canSet.data.toList.drop 70 = dktX1_canSet_3 := dk_seg dksX1_canSet_2 23 rfl rfl
theorem dksX1_canSet_4 : cX1_canSet.data.toList.drop 94 = dktX1_canSet_4 := dk_seg dksX1_canSet_3 24 rfl rfl
theorem dX1_canSet_0 : decode cX1_canSet 0 = .ok (.aload_n 0, 1) := dk_42 (dk_at dksX1_canSet_0 0 rfl rfl)
theorem dX1_canSet_1 : decode cX1_canSet 1 = .ok (.invokevirtual 140, 3) := dk_182 0 140 (dk_at dksX1_canSet_0 1 rfl rfl)
theorem dX1_canSet_4 : decode cX1_canSet 4 = .ok (.iconst 0, 1) := dk_3 (dk_at dksX1_canSet_0 4 rfl rfl)
theorem dX1_canSet_5 : decode cX1_canSet 5 = .ok (.aload_n 0, 1) := dk_42 (dk_at dksX1_canSet_0 5 rfl rfl)
theorem dX1_canSet_6 : decode cX1_canSet 6 = .ok (.getfield 54, 3) := dk_180 0 54 (dk_at dksX1_canSet_0 6 rfl rfl)
theorem dX1_canSet_9 : decode cX1_canSet 9 = .ok (.iconst 0, 1) := dk_3 (dk_at dksX1_canSet_0 9 rfl rfl)
theorem dX1_canSet_10 : decode cX1_canSet 10 = .ok (.bipush 64, 2) := dk_16 64 (dk_at dksX1_canSet_0 10 rfl rfl)
theorem dX1_canSet_12 : decode cX1_canSet 12 = .ok (.invokestatic 144, 3) := dk_184 0 144 (dk_at dksX1_canSet_0 12 rfl rfl)
theorem dX1_canSet_15 : decode cX1_canSet 15 = .ok (.aload_n 0, 1) := dk_42 (dk_at dksX1_canSet_0 15 rfl rfl)
theorem dX1_canSet_16 : decode cX1_canSet 16 = .ok (.getfield 54, 3) := dk_180 0 54 (dk_at dksX1_canSet_0 16 rfl rfl)
theorem dX1_canSet_19 : decode cX1_canSet 19 = .ok (.iload_n 1, 1) := dk_27 (dk_at dksX1_canSet_0 19 rfl rfl)
theorem dX1_canSet_20 : decode cX1_canSet 20 = .ok (.iload_n 2, 1) := dk_28 (dk_at dksX1_canSet_0 20 rfl rfl)
theorem dX1_canSet_21 : decode cX1_canSet 21 = .ok (.iastore, 1) := dk_79 (dk_at dksX1_canSet_0 21 rfl rfl)
theorem dX1_canSet_22 : decode cX1_canSet 22 = .ok (.aload_n 0, 1) := dk_42 (dk_at dksX1_canSet_0 22 rfl rfl)
theorem dX1_canSet_23 : decode cX1_canSet 23 = .ok (.getfield 32, 3) := dk_180 0 32 (dk_at dksX1_canSet_1 0 rfl rfl)
theorem dX1_canSet_26 : decode cX1_canSet 26 = .ok (.aload_n 0, 1) := dk_42 (dk_at dksX1_canSet_1 3 rfl rfl)
theorem dX1_canSet_27 : decode cX1_canSet 27 = .ok (.getfield 54, 3) := dk_180 0 54 (dk_at dksX1_canSet_1 4 rfl rfl)
theorem dX1_canSet_30 : decode cX1_canSet 30 = .ok (.aload_n 0, 1) := dk_42 (dk_at dksX1_canSet_1 7 rfl rfl)
theorem dX1_canSet_31 : decode cX1_canSet 31 = .ok (.getfield 57, 3) := dk_180 0 57 (dk_at dksX1_canSet_1 8 rfl rfl)
theorem dX1_canSet_34 : decode cX1_canSet 34 = .ok (.aload_n 0, 1) := dk_42 (dk_at dksX1_canSet_1 11 rfl rfl)
theorem dX1_canSet_35 : decode cX1_canSet 35 = .ok (.getfield 16, 3) := dk_180 0 16 (dk_at dksX1_canSet_1 12 rfl rfl)
theorem dX1_canSet_38 : decode cX1_canSet 38 = .ok (.getfield 110, 3) := dk_180 0 110 (dk_at dksX1_canSet_1 15 rfl rfl)
theorem dX1_canSet_41 : decode cX1_canSet 41 = .ok (.invokevirtual 150, 3) := dk_182 0 150 (dk_at dksX1_canSet_1 18 rfl rfl)
theorem dX1_canSet_44 : decode cX1_canSet 44 = .ok (.pop, 1) := dk_87 (dk_at dksX1_canSet_1 21 rfl rfl)
theorem dX1_canSet_45 : decode cX1_canSet 45 = .ok (.iconst 1, 1) := dk_4 (dk_at dksX1_canSet_1 22 rfl rfl)
theorem dX1_canSet_46 : decode cX1_canSet 46 = .ok (.istore_n 3, 1) := dk_62 (dk_at dksX1_canSet_1 23 rfl rfl)
theorem dX1_canSet_47 : decode cX1_canSet 47 = .ok (.aload_n 0, 1) := dk_42 (dk_at dksX1_canSet_2 0 rfl rfl)
theorem dX1_canSet_48 : decode cX1_canSet 48 = .ok (.getfield 57, 3) := dk_180 0 57 (dk_at dksX1_canSet_2 1 rfl rfl)
theorem dX1_canSet_51 : decode cX1_canSet 51 = .ok (.astore 4, 2) := dk_58 4 (dk_at dksX1_canSet_2 4 rfl rfl)
theorem dX1_canSet_53 : decode cX1_canSet 53 = .ok (.aload 4, 2) := dk_25 4 (dk_at dksX1_canSet_2 6 rfl rfl)
theorem dX1_canSet_55 : decode cX1_canSet 55 = .ok (.arraylength, 1) := dk_190 (dk_at dksX1_canSet_2 8 rfl rfl)
theorem dX1_canSet_56 : decode cX1_canSet 56 = .ok (.istore 5, 2) := dk_54 5 (dk_at dksX1_canSet_2 9 rfl rfl)
theorem dX1_canSet_58 : decode cX1_canSet 58 = .ok (.iconst 0, 1) := dk_3 (dk_at dksX1_canSet_2 11 rfl rfl)
theorem dX1_canSet_59 : decode cX1_canSet 59 = .ok (.istore 6, 2) := dk_54 6 (dk_at dksX1_canSet_2 12 rfl rfl)
theorem dX1_canSet_61 : decode cX1_canSet 61 = .ok (.iload 6, 2) := dk_21 6 (dk_at dksX1_canSet_2 14 rfl rfl)
theorem dX1_canSet_63 : decode cX1_canSet 63 = .ok (.iload 5, 2) := dk_21 5 (dk_at dksX1_canSet_2 16 rfl rfl)
theorem dX1_canSet_65 : decode cX1_canSet 65 = .ok (.if_icmp .ge 28, 3) := dk_162 0 28 (dk_at dksX1_canSet_2 18 rfl rfl)
theorem dX1_canSet_68 : decode cX1_canSet 68 = .ok (.aload 4, 2) := dk_25 4 (dk_at dksX1_canSet_2 21 rfl rfl)
theorem dX1_canSet_70 : decode cX1_canSet 70 = .ok (.iload 6, 2) := dk_21 6 (dk_at dksX1_canSet_3 0 rfl rfl)
theorem dX1_canSet_72 : decode cX1_canSet 72 = .ok (.iaload, 1) := dk_46 (dk_at dksX1_canSet_3 2 rfl rfl)
theorem dX1_canSet_73 : decode cX1_canSet 73 = .ok (.istore 7, 2) := dk_54 7 (dk_at dksX1_canSet_3 3 rfl rfl)
theorem dX1_canSet_75 : decode cX1_canSet 75 = .ok (.iload_n 3, 1) := dk_29 (dk_at dksX1_canSet_3 5 rfl rfl)
theorem dX1_canSet_76 : decode cX1_canSet 76 = .ok (.iload 7, 2) := dk_21 7 (dk_at dksX1_canSet_3 6 rfl rfl)
theorem dX1_canSet_78 : decode cX1_canSet 78 = .ok (.iconst 0, 1) := dk_3 (dk_at dksX1_canSet_3 8 rfl rfl)
theorem dX1_canSet_79 : decode cX1_canSet 79 = .ok (.sipush 255, 3) := dk_17 0 255 (dk_at dksX1_canSet_3 9 rfl rfl)
theorem dX1_canSet_82 : decode cX1_canSet 82 = .ok (.invokestatic 99, 3) := dk_184 0 99 (dk_at dksX1_canSet_3 12 rfl rfl)
theorem dX1_canSet_85 : decode cX1_canSet 85 = .ok (.iand, 1) := dk_126 (dk_at dksX1_canSet_3 15 rfl rfl)
theorem dX1_canSet_86 : decode cX1_canSet 86 = .ok (.istore_n 3, 1) := dk_62 (dk_at dksX1_canSet_3 16 rfl rfl)
theorem dX1_canSet_87 : decode cX1_canSet 87 = .ok (.iinc 6 1, 3) := dk_132 6 1 (dk_at dksX1_canSet_3 17 rfl rfl)
theorem dX1_canSet_90 : decode cX1_canSet 90 = .ok (.goto (-29), 3) := dk_167 255 227 (dk_at dksX1_canSet_3 20 rfl rfl)
theorem dX1_canSet_93 : decode cX1_canSet 93 = .ok (.iload_n 3, 1) := dk_29 (dk_at dksX1_canSet_3 23 rfl rfl)
theorem dX1_canSet_94 : decode cX1_canSet 94 = .ok (.ireturn, 1) := dk_172 (dk_at dksX1_canSet_4 0 rfl rfl)
abbrev cX1_dropCrumbs : ByteArray := prog_1_method_23_code
def yX1_dropCrumbs : MethodName := ⟨RX1, "dropCrumbs", "(I)I"⟩
def dkwX1_dropCrumbs_1 : List UInt8 := [182, 0, 127, 42, 180, 0, 16, 42, 182, 0, 186, 182, 0, 157, 87, 28, 172]
abbrev dktX1_dropCrumbs_1 : List UInt8 := dkwX1_dropCrumbs_1 ++ []
def dkwX1_dropCrumbs_0 : List UInt8 := [27, 184, 0, 124, 42, 27, 182, 0, 183, 61, 28, 158, 0, 7, 4, 167, 0, 4, 3, 184, 0, 133, 42]
abbrev dktX1_dropCrumbs_0 : List UInt8 := dkwX1_dropCrumbs_0 ++ dktX1_dropCrumbs_1
theorem dksX1_dropCrumbs_0 : cX1_dropCrumbs.data.toList.drop 0 = dktX1_dropCrumbs_0 := by decide +kernel
theorem dksX1_dropCrumbs_1 : cX1_dropCrumbs.data.toList.drop 23 = dktX1_dropCrumbs_1 := dk_seg dksX1_dropCrumbs_0 23 rfl rfl
theorem dX1_dropCrumbs_0 : decode cX1_dropCrumbs 0 = .ok (.iload_n 1, 1) := dk_27 (dk_at dksX1_dropCrumbs_0 0 rfl rfl)
theorem dX1_dropCrumbs_1 : decode cX1_dropCrumbs 1 = .ok (.invokestatic 124, 3) := dk_184 0 124 (dk_at dksX1_dropCrumbs_0 1 rfl rfl)
theorem dX1_dropCrumbs_4 : decode cX1_dropCrumbs 4 = .ok (.aload_n 0, 1) := dk_42 (dk_at dksX1_dropCrumbs_0 4 rfl rfl)
theorem dX1_dropCrumbs_5 : decode cX1_dropCrumbs 5 = .ok (.iload_n 1, 1) := dk_27 (dk_at dksX1_dropCrumbs_0 5 rfl rfl)
theorem dX1_dropCrumbs_6 : decode cX1_dropCrumbs 6 = .ok (.invokevirtual 183, 3) := dk_182 0 183 (dk_at dksX1_dropCrumbs_0 6 rfl rfl)
theorem dX1_dropCrumbs_9 : decode cX1_dropCrumbs 9 = .ok (.istore_n 2, 1) := dk_61 (dk_at dksX1_dropCrumbs_0 9 rfl rfl)
theorem dX1_dropCrumbs_10 : decode cX1_dropCrumbs 10 = .ok (.iload_n 2, 1) := dk_28 (dk_at dksX1_dropCrumbs_0 10 rfl rfl)
theorem dX1_dropCrumbs_11 : decode cX1_dropCrumbs 11 = .ok (.ifCond .le 7, 3) := dk_158 0 7 (dk_at dksX1_dropCrumbs_0 11 rfl rfl)
theorem dX1_dropCrumbs_14 : decode cX1_dropCrumbs 14 = .ok (.iconst 1, 1) := dk_4 (dk_at dksX1_dropCrumbs_0 14 rfl rfl)
theorem dX1_dropCrumbs_15 : decode cX1_dropCrumbs 15 = .ok (.goto 4, 3) := dk_167 0 4 (dk_at dksX1_dropCrumbs_0 15 rfl rfl)
theorem dX1_dropCrumbs_18 : decode cX1_dropCrumbs 18 = .ok (.iconst 0, 1) := dk_3 (dk_at dksX1_dropCrumbs_0 18 rfl rfl)
theorem dX1_dropCrumbs_19 : decode cX1_dropCrumbs 19 = .ok (.invokestatic 133, 3) := dk_184 0 133 (dk_at dksX1_dropCrumbs_0 19 rfl rfl)
theorem dX1_dropCrumbs_22 : decode cX1_dropCrumbs 22 = .ok (.aload_n 0, 1) := dk_42 (dk_at dksX1_dropCrumbs_0 22 rfl rfl)
theorem dX1_dropCrumbs_23 : decode cX1_dropCrumbs 23 = .ok (.invokevirtual 127, 3) := dk_182 0 127 (dk_at dksX1_dropCrumbs_1 0 rfl rfl)
theorem dX1_dropCrumbs_26 : decode cX1_dropCrumbs 26 = .ok (.aload_n 0, 1) := dk_42 (dk_at dksX1_dropCrumbs_1 3 rfl rfl)
theorem dX1_dropCrumbs_27 : decode cX1_dropCrumbs 27 = .ok (.getfield 16, 3) := dk_180 0 16 (dk_at dksX1_dropCrumbs_1 4 rfl rfl)
theorem dX1_dropCrumbs_30 : decode cX1_dropCrumbs 30 = .ok (.aload_n 0, 1) := dk_42 (dk_at dksX1_dropCrumbs_1 7 rfl rfl)
theorem dX1_dropCrumbs_31 : decode cX1_dropCrumbs 31 = .ok (.invokevirtual 186, 3) := dk_182 0 186 (dk_at dksX1_dropCrumbs_1 8 rfl rfl)
theorem dX1_dropCrumbs_34 : decode cX1_dropCrumbs 34 = .ok (.invokevirtual 157, 3) := dk_182 0 157 (dk_at dksX1_dropCrumbs_1 11 rfl rfl)
theorem dX1_dropCrumbs_37 : decode cX1_dropCrumbs 37 = .ok (.pop, 1) := dk_87 (dk_at dksX1_dropCrumbs_1 14 rfl rfl)
theorem dX1_dropCrumbs_38 : decode cX1_dropCrumbs 38 = .ok (.iload_n 2, 1) := dk_28 (dk_at dksX1_dropCrumbs_1 15 rfl rfl)
theorem dX1_dropCrumbs_39 : decode cX1_dropCrumbs 39 = .ok (.ireturn, 1) := dk_172 (dk_at dksX1_dropCrumbs_1 16 rfl rfl)
abbrev cX1_setLevels : ByteArray := prog_1_method_24_code
def yX1_setLevels : MethodName := ⟨RX1, "setLevels", "(I)I"⟩
def dkwX1_setLevels_0 : List UInt8 := [27, 184, 0, 189, 42, 182, 0, 127, 42, 180, 0, 16, 27, 182, 0, 192, 172]
abbrev dktX1_setLevels_0 : List UInt8 := dkwX1_setLevels_0 ++ []
theorem dksX1_setLevels_0 : cX1_setLevels.data.toList.drop 0 = dktX1_setLevels_0 := by decide +kernel
theorem dX1_setLevels_0 : decode cX1_setLevels 0 = .ok (.iload_n 1, 1) := dk_27 (dk_at dksX1_setLevels_0 0 rfl rfl)
theorem dX1_setLevels_1 : decode cX1_setLevels 1 = .ok (.invokestatic 189, 3) := dk_184 0 189 (dk_at dksX1_setLevels_0 1 rfl rfl)
theorem dX1_setLevels_4 : decode cX1_setLevels 4 = .ok (.aload_n 0, 1) := dk_42 (dk_at dksX1_setLevels_0 4 rfl rfl)
theorem dX1_setLevels_5 : decode cX1_setLevels 5 = .ok (.invokevirtual 127, 3) := dk_182 0 127 (dk_at dksX1_setLevels_0 5 rfl rfl)
theorem dX1_setLevels_8 : decode cX1_setLevels 8 = .ok (.aload_n 0, 1) := dk_42 (dk_at dksX1_setLevels_0 8 rfl rfl)
theorem dX1_setLevels_9 : decode cX1_setLevels 9 = .ok (.getfield 16, 3) := dk_180 0 16 (dk_at dksX1_setLevels_0 9 rfl rfl)
theorem dX1_setLevels_12 : decode cX1_setLevels 12 = .ok (.iload_n 1, 1) := dk_27 (dk_at dksX1_setLevels_0 12 rfl rfl)
theorem dX1_setLevels_13 : decode cX1_setLevels 13 = .ok (.invokevirtual 192, 3) := dk_182 0 192 (dk_at dksX1_setLevels_0 13 rfl rfl)
theorem dX1_setLevels_16 : decode cX1_setLevels 16 = .ok (.ireturn, 1) := dk_172 (dk_at dksX1_setLevels_0 16 rfl rfl)
abbrev cX1_needLevels : ByteArray := prog_1_method_13_code
def yX1_needLevels : MethodName := ⟨RX1, "needLevels", "(I)V"⟩
def dkwX1_needLevels_0 : List UInt8 := [26, 4, 6, 184, 0, 99, 184, 0, 107, 177]
abbrev dktX1_needLevels_0 : List UInt8 := dkwX1_needLevels_0 ++ []
theorem dksX1_needLevels_0 : cX1_needLevels.data.toList.drop 0 = dktX1_needLevels_0 := by decide +kernel
theorem dX1_needLevels_0 : decode cX1_needLevels 0 = .ok (.iload_n 0, 1) := dk_26 (dk_at dksX1_needLevels_0 0 rfl rfl)
theorem dX1_needLevels_1 : decode cX1_needLevels 1 = .ok (.iconst 1, 1) := dk_4 (dk_at dksX1_needLevels_0 1 rfl rfl)
theorem dX1_needLevels_2 : decode cX1_needLevels 2 = .ok (.iconst 3, 1) := dk_6 (dk_at dksX1_needLevels_0 2 rfl rfl)
theorem dX1_needLevels_3 : decode cX1_needLevels 3 = .ok (.invokestatic 99, 3) := dk_184 0 99 (dk_at dksX1_needLevels_0 3 rfl rfl)
theorem dX1_needLevels_6 : decode cX1_needLevels 6 = .ok (.invokestatic 107, 3) := dk_184 0 107 (dk_at dksX1_needLevels_0 6 rfl rfl)
theorem dX1_needLevels_9 : decode cX1_needLevels 9 = .ok (.return_, 1) := dk_177 (dk_at dksX1_needLevels_0 9 rfl rfl)
abbrev cX1_append : ByteArray := prog_1_method_28_code
def yX1_append : MethodName := ⟨RX1, "append", "(I)I"⟩
def dkwX1_append_2 : List UInt8 := [172]
abbrev dktX1_append_2 : List UInt8 := dkwX1_append_2 ++ []
def dkwX1_append_1 : List UInt8 := [167, 0, 4, 3, 184, 0, 133, 42, 180, 0, 70, 27, 146, 182, 0, 205, 87, 42, 180, 0, 70, 182, 0, 202]
abbrev dktX1_append_1 : List UInt8 := dkwX1_append_1 ++ dktX1_append_2
def dkwX1_append_0 : List UInt8 := [27, 16, 33, 16, 126, 184, 0, 99, 184, 0, 107, 42, 180, 0, 70, 182, 0, 202, 16, 60, 162, 0, 7, 4]
abbrev dktX1_append_0 : List UInt8 := dkwX1_append_0 ++ dktX1_append_1
theorem dksX1_append_0 : cX1_append.data.toList.drop 0 = dktX1_append_0 := by decide +kernel
theorem dksX1_append_1 : cX1_append.data.toList.drop 24 = dktX1_append_1 := dk_seg dksX1_append_0 24 rfl rfl
theorem dksX1_append_2 : cX1_append.data.toList.drop 48 = dktX1_append_2 := dk_seg dksX1_append_1 24 rfl rfl
theorem dX1_append_0 : decode cX1_append 0 = .ok (.iload_n 1, 1) := dk_27 (dk_at dksX1_append_0 0 rfl rfl)
theorem dX1_append_1 : decode cX1_append 1 = .ok (.bipush 33, 2) := dk_16 33 (dk_at dksX1_append_0 1 rfl rfl)
theorem dX1_append_3 : decode cX1_append 3 = .ok (.bipush 126, 2) := dk_16 126 (dk_at dksX1_append_0 3 rfl rfl)
theorem dX1_append_5 : decode cX1_append 5 = .ok (.invokestatic 99, 3) := dk_184 0 99 (dk_at dksX1_append_0 5 rfl rfl)
theorem dX1_append_8 : decode cX1_append 8 = .ok (.invokestatic 107, 3) := dk_184 0 107 (dk_at dksX1_append_0 8 rfl rfl)
theorem dX1_append_11 : decode cX1_append 11 = .ok (.aload_n 0, 1) := dk_42 (dk_at dksX1_append_0 11 rfl rfl)
theorem dX1_append_12 : decode cX1_append 12 = .ok (.getfield 70, 3) := dk_180 0 70 (dk_at dksX1_append_0 12 rfl rfl)
theorem dX1_append_15 : decode cX1_append 15 = .ok (.invokevirtual 202, 3) := dk_182 0 202 (dk_at dksX1_append_0 15 rfl rfl)
theorem dX1_append_18 : decode cX1_append 18 = .ok (.bipush 60, 2) := dk_16 60 (dk_at dksX1_append_0 18 rfl rfl)
theorem dX1_append_20 : decode cX1_append 20 = .ok (.if_icmp .ge 7, 3) := dk_162 0 7 (dk_at dksX1_append_0 20 rfl rfl)
theorem dX1_append_23 : decode cX1_append 23 = .ok (.iconst 1, 1) := dk_4 (dk_at dksX1_append_0 23 rfl rfl)
theorem dX1_append_24 : decode cX1_append 24 = .ok (.goto 4, 3) := dk_167 0 4 (dk_at dksX1_append_1 0 rfl rfl)
theorem dX1_append_27 : decode cX1_append 27 = .ok (.iconst 0, 1) := dk_3 (dk_at dksX1_append_1 3 rfl rfl)
theorem dX1_append_28 : decode cX1_append 28 = .ok (.invokestatic 133, 3) := dk_184 0 133 (dk_at dksX1_append_1 4 rfl rfl)
theorem dX1_append_31 : decode cX1_append 31 = .ok (.aload_n 0, 1) := dk_42 (dk_at dksX1_append_1 7 rfl rfl)
theorem dX1_append_32 : decode cX1_append 32 = .ok (.getfield 70, 3) := dk_180 0 70 (dk_at dksX1_append_1 8 rfl rfl)
theorem dX1_append_35 : decode cX1_append 35 = .ok (.iload_n 1, 1) := dk_27 (dk_at dksX1_append_1 11 rfl rfl)
theorem dX1_append_36 : decode cX1_append 36 = .ok (.i2c, 1) := dk_146 (dk_at dksX1_append_1 12 rfl rfl)
theorem dX1_append_37 : decode cX1_append 37 = .ok (.invokevirtual 205, 3) := dk_182 0 205 (dk_at dksX1_append_1 13 rfl rfl)
theorem dX1_append_40 : decode cX1_append 40 = .ok (.pop, 1) := dk_87 (dk_at dksX1_append_1 16 rfl rfl)
theorem dX1_append_41 : decode cX1_append 41 = .ok (.aload_n 0, 1) := dk_42 (dk_at dksX1_append_1 17 rfl rfl)
theorem dX1_append_42 : decode cX1_append 42 = .ok (.getfield 70, 3) := dk_180 0 70 (dk_at dksX1_append_1 18 rfl rfl)
theorem dX1_append_45 : decode cX1_append 45 = .ok (.invokevirtual 202, 3) := dk_182 0 202 (dk_at dksX1_append_1 21 rfl rfl)
theorem dX1_append_48 : decode cX1_append 48 = .ok (.ireturn, 1) := dk_172 (dk_at dksX1_append_2 0 rfl rfl)
abbrev cX1_work : ByteArray := prog_1_method_33_code
def yX1_work : MethodName := ⟨RX1, "work", "()I"⟩
def dkwX1_work_4 : List UInt8 := [180, 0, 70, 3, 182, 0, 209, 28, 172]
abbrev dktX1_work_4 : List UInt8 := dkwX1_work_4 ++ []
def dkwX1_work_3 : List UInt8 := [180, 0, 16, 29, 154, 0, 7, 2, 167, 0, 4, 28, 181, 0, 238, 42, 180, 0, 16, 29, 181, 0, 241, 42]
abbrev dktX1_work_3 : List UInt8 := dkwX1_work_3 ++ dktX1_work_4
def dkwX1_work_2 : List UInt8 := [29, 154, 255, 231, 42, 43, 180, 0, 227, 7, 28, 104, 182, 0, 234, 132, 2, 1, 167, 255, 214, 42]
abbrev dktX1_work_2 : List UInt8 := dkwX1_work_2 ++ dktX1_work_3
def dkwX1_work_1 : List UInt8 := [28, 43, 180, 0, 224, 162, 0, 40, 29, 154, 0, 36, 42, 43, 180, 0, 227, 7, 28, 104, 182, 0, 230, 62]
abbrev dktX1_work_1 : List UInt8 := dkwX1_work_1 ++ dktX1_work_2
def dkwX1_work_0 : List UInt8 := [187, 0, 212, 89, 42, 183, 0, 214, 76, 43, 182, 0, 217, 184, 0, 107, 42, 182, 0, 127, 3, 61, 3, 62]
abbrev dktX1_work_0 : List UInt8 := dkwX1_work_0 ++ dktX1_work_1
theorem dksX1_work_0 : cX1_work.data.toList.drop 0 = dktX1_work_0 := by decide +kernel
theorem dksX1_work_1 : cX1_work.data.toList.drop 24 = dktX1_work_1 := dk_seg dksX1_work_0 24 rfl rfl
theorem dksX1_work_2 : cX1_work.data.toList.drop 48 = dktX1_work_2 := dk_seg dksX1_work_1 24 rfl rfl
theorem dksX1_work_3 : cX1_work.data.toList.drop 70 = dktX1_work_3 := dk_seg dksX1_work_2 22 rfl rfl
theorem dksX1_work_4 : cX1_work.data.toList.drop 94 = dktX1_work_4 := dk_seg dksX1_work_3 24 rfl rfl
theorem dX1_work_0 : decode cX1_work 0 = .ok (.new 212, 3) := dk_187 0 212 (dk_at dksX1_work_0 0 rfl rfl)
theorem dX1_work_3 : decode cX1_work 3 = .ok (.dup, 1) := dk_89 (dk_at dksX1_work_0 3 rfl rfl)
theorem dX1_work_4 : decode cX1_work 4 = .ok (.aload_n 0, 1) := dk_42 (dk_at dksX1_work_0 4 rfl rfl)
theorem dX1_work_5 : decode cX1_work 5 = .ok (.invokespecial 214, 3) := dk_183 0 214 (dk_at dksX1_work_0 5 rfl rfl)
theorem dX1_work_8 : decode cX1_work 8 = .ok (.astore_n 1, 1) := dk_76 (dk_at dksX1_work_0 8 rfl rfl)
theorem dX1_work_9 : decode cX1_work 9 = .ok (.aload_n 1, 1) := dk_43 (dk_at dksX1_work_0 9 rfl rfl)
theorem dX1_work_10 : decode cX1_work 10 = .ok (.invokevirtual 217, 3) := dk_182 0 217 (dk_at dksX1_work_0 10 rfl rfl)
theorem dX1_work_13 : decode cX1_work 13 = .ok (.invokestatic 107, 3) := dk_184 0 107 (dk_at dksX1_work_0 13 rfl rfl)
theorem dX1_work_16 : decode cX1_work 16 = .ok (.aload_n 0, 1) := dk_42 (dk_at dksX1_work_0 16 rfl rfl)
theorem dX1_work_17 : decode cX1_work 17 = .ok (.invokevirtual 127, 3) := dk_182 0 127 (dk_at dksX1_work_0 17 rfl rfl)
theorem dX1_work_20 : decode cX1_work 20 = .ok (.iconst 0, 1) := dk_3 (dk_at dksX1_work_0 20 rfl rfl)
theorem dX1_work_21 : decode cX1_work 21 = .ok (.istore_n 2, 1) := dk_61 (dk_at dksX1_work_0 21 rfl rfl)
theorem dX1_work_22 : decode cX1_work 22 = .ok (.iconst 0, 1) := dk_3 (dk_at dksX1_work_0 22 rfl rfl)
theorem dX1_work_23 : decode cX1_work 23 = .ok (.istore_n 3, 1) := dk_62 (dk_at dksX1_work_0 23 rfl rfl)
theorem dX1_work_24 : decode cX1_work 24 = .ok (.iload_n 2, 1) := dk_28 (dk_at dksX1_work_1 0 rfl rfl)
theorem dX1_work_25 : decode cX1_work 25 = .ok (.aload_n 1, 1) := dk_43 (dk_at dksX1_work_1 1 rfl rfl)
theorem dX1_work_26 : decode cX1_work 26 = .ok (.getfield 224, 3) := dk_180 0 224 (dk_at dksX1_work_1 2 rfl rfl)
theorem dX1_work_29 : decode cX1_work 29 = .ok (.if_icmp .ge 40, 3) := dk_162 0 40 (dk_at dksX1_work_1 5 rfl rfl)
theorem dX1_work_32 : decode cX1_work 32 = .ok (.iload_n 3, 1) := dk_29 (dk_at dksX1_work_1 8 rfl rfl)
theorem dX1_work_33 : decode cX1_work 33 = .ok (.ifCond .ne 36, 3) := dk_154 0 36 (dk_at dksX1_work_1 9 rfl rfl)
theorem dX1_work_36 : decode cX1_work 36 = .ok (.aload_n 0, 1) := dk_42 (dk_at dksX1_work_1 12 rfl rfl)
theorem dX1_work_37 : decode cX1_work 37 = .ok (.aload_n 1, 1) := dk_43 (dk_at dksX1_work_1 13 rfl rfl)
theorem dX1_work_38 : decode cX1_work 38 = .ok (.getfield 227, 3) := dk_180 0 227 (dk_at dksX1_work_1 14 rfl rfl)
theorem dX1_work_41 : decode cX1_work 41 = .ok (.iconst 4, 1) := dk_7 (dk_at dksX1_work_1 17 rfl rfl)
theorem dX1_work_42 : decode cX1_work 42 = .ok (.iload_n 2, 1) := dk_28 (dk_at dksX1_work_1 18 rfl rfl)
theorem dX1_work_43 : decode cX1_work 43 = .ok (.imul, 1) := dk_104 (dk_at dksX1_work_1 19 rfl rfl)
theorem dX1_work_44 : decode cX1_work 44 = .ok (.invokevirtual 230, 3) := dk_182 0 230 (dk_at dksX1_work_1 20 rfl rfl)
theorem dX1_work_47 : decode cX1_work 47 = .ok (.istore_n 3, 1) := dk_62 (dk_at dksX1_work_1 23 rfl rfl)
theorem dX1_work_48 : decode cX1_work 48 = .ok (.iload_n 3, 1) := dk_29 (dk_at dksX1_work_2 0 rfl rfl)
theorem dX1_work_49 : decode cX1_work 49 = .ok (.ifCond .ne (-25), 3) := dk_154 255 231 (dk_at dksX1_work_2 1 rfl rfl)
theorem dX1_work_52 : decode cX1_work 52 = .ok (.aload_n 0, 1) := dk_42 (dk_at dksX1_work_2 4 rfl rfl)
theorem dX1_work_53 : decode cX1_work 53 = .ok (.aload_n 1, 1) := dk_43 (dk_at dksX1_work_2 5 rfl rfl)
theorem dX1_work_54 : decode cX1_work 54 = .ok (.getfield 227, 3) := dk_180 0 227 (dk_at dksX1_work_2 6 rfl rfl)
theorem dX1_work_57 : decode cX1_work 57 = .ok (.iconst 4, 1) := dk_7 (dk_at dksX1_work_2 9 rfl rfl)
theorem dX1_work_58 : decode cX1_work 58 = .ok (.iload_n 2, 1) := dk_28 (dk_at dksX1_work_2 10 rfl rfl)
theorem dX1_work_59 : decode cX1_work 59 = .ok (.imul, 1) := dk_104 (dk_at dksX1_work_2 11 rfl rfl)
theorem dX1_work_60 : decode cX1_work 60 = .ok (.invokevirtual 234, 3) := dk_182 0 234 (dk_at dksX1_work_2 12 rfl rfl)
theorem dX1_work_63 : decode cX1_work 63 = .ok (.iinc 2 1, 3) := dk_132 2 1 (dk_at dksX1_work_2 15 rfl rfl)
theorem dX1_work_66 : decode cX1_work 66 = .ok (.goto (-42), 3) := dk_167 255 214 (dk_at dksX1_work_2 18 rfl rfl)
theorem dX1_work_69 : decode cX1_work 69 = .ok (.aload_n 0, 1) := dk_42 (dk_at dksX1_work_2 21 rfl rfl)
theorem dX1_work_70 : decode cX1_work 70 = .ok (.getfield 16, 3) := dk_180 0 16 (dk_at dksX1_work_3 0 rfl rfl)
theorem dX1_work_73 : decode cX1_work 73 = .ok (.iload_n 3, 1) := dk_29 (dk_at dksX1_work_3 3 rfl rfl)
theorem dX1_work_74 : decode cX1_work 74 = .ok (.ifCond .ne 7, 3) := dk_154 0 7 (dk_at dksX1_work_3 4 rfl rfl)
theorem dX1_work_77 : decode cX1_work 77 = .ok (.iconst (-1), 1) := dk_2 (dk_at dksX1_work_3 7 rfl rfl)
theorem dX1_work_78 : decode cX1_work 78 = .ok (.goto 4, 3) := dk_167 0 4 (dk_at dksX1_work_3 8 rfl rfl)
theorem dX1_work_81 : decode cX1_work 81 = .ok (.iload_n 2, 1) := dk_28 (dk_at dksX1_work_3 11 rfl rfl)
theorem dX1_work_82 : decode cX1_work 82 = .ok (.putfield 238, 3) := dk_181 0 238 (dk_at dksX1_work_3 12 rfl rfl)
theorem dX1_work_85 : decode cX1_work 85 = .ok (.aload_n 0, 1) := dk_42 (dk_at dksX1_work_3 15 rfl rfl)
theorem dX1_work_86 : decode cX1_work 86 = .ok (.getfield 16, 3) := dk_180 0 16 (dk_at dksX1_work_3 16 rfl rfl)
theorem dX1_work_89 : decode cX1_work 89 = .ok (.iload_n 3, 1) := dk_29 (dk_at dksX1_work_3 19 rfl rfl)
theorem dX1_work_90 : decode cX1_work 90 = .ok (.putfield 241, 3) := dk_181 0 241 (dk_at dksX1_work_3 20 rfl rfl)
theorem dX1_work_93 : decode cX1_work 93 = .ok (.aload_n 0, 1) := dk_42 (dk_at dksX1_work_3 23 rfl rfl)
theorem dX1_work_94 : decode cX1_work 94 = .ok (.getfield 70, 3) := dk_180 0 70 (dk_at dksX1_work_4 0 rfl rfl)
theorem dX1_work_97 : decode cX1_work 97 = .ok (.iconst 0, 1) := dk_3 (dk_at dksX1_work_4 3 rfl rfl)
theorem dX1_work_98 : decode cX1_work 98 = .ok (.invokevirtual 209, 3) := dk_182 0 209 (dk_at dksX1_work_4 4 rfl rfl)
theorem dX1_work_101 : decode cX1_work 101 = .ok (.iload_n 2, 1) := dk_28 (dk_at dksX1_work_4 7 rfl rfl)
theorem dX1_work_102 : decode cX1_work 102 = .ok (.ireturn, 1) := dk_172 (dk_at dksX1_work_4 8 rfl rfl)
abbrev cX1_whyNot : ByteArray := prog_1_method_31_code
def yX1_whyNot : MethodName := ⟨RX1, "whyNot", "([II)I"⟩
def dkwX1_whyNot_4 : List UInt8 := [167, 0, 4, 5, 172, 3, 172]
abbrev dktX1_whyNot_4 : List UInt8 := dkwX1_whyNot_4 ++ []
def dkwX1_whyNot_3 : List UInt8 := [153, 0, 7, 3, 167, 0, 4, 4, 172, 42, 43, 28, 4, 96, 46, 182, 0, 183, 158, 0, 7, 3]
abbrev dktX1_whyNot_3 : List UInt8 := dkwX1_whyNot_3 ++ dktX1_whyNot_4
def dkwX1_whyNot_2 : List UInt8 := [42, 16, 8, 43, 28, 4, 96, 46, 104, 43, 28, 5, 96, 46, 96, 43, 28, 6, 96, 46, 182, 0, 153]
abbrev dktX1_whyNot_2 : List UInt8 := dkwX1_whyNot_2 ++ dktX1_whyNot_3
def dkwX1_whyNot_1 : List UInt8 := [171, 0, 0, 0, 75, 0, 0, 0, 2, 0, 0, 0, 100, 0, 0, 0, 25, 0, 0, 0, 116, 0, 0, 0, 57]
abbrev dktX1_whyNot_1 : List UInt8 := dkwX1_whyNot_1 ++ dktX1_whyNot_2
def dkwX1_whyNot_0 : List UInt8 := [43, 28, 46]
abbrev dktX1_whyNot_0 : List UInt8 := dkwX1_whyNot_0 ++ dktX1_whyNot_1
theorem dksX1_whyNot_0 : cX1_whyNot.data.toList.drop 0 = dktX1_whyNot_0 := by decide +kernel
theorem dksX1_whyNot_1 : cX1_whyNot.data.toList.drop 3 = dktX1_whyNot_1 := dk_seg dksX1_whyNot_0 3 rfl rfl
theorem dksX1_whyNot_2 : cX1_whyNot.data.toList.drop 28 = dktX1_whyNot_2 := dk_seg dksX1_whyNot_1 25 rfl rfl
theorem dksX1_whyNot_3 : cX1_whyNot.data.toList.drop 51 = dktX1_whyNot_3 := dk_seg dksX1_whyNot_2 23 rfl rfl
theorem dksX1_whyNot_4 : cX1_whyNot.data.toList.drop 73 = dktX1_whyNot_4 := dk_seg dksX1_whyNot_3 22 rfl rfl
theorem dX1_whyNot_0 : decode cX1_whyNot 0 = .ok (.aload_n 1, 1) := dk_43 (dk_at dksX1_whyNot_0 0 rfl rfl)
theorem dX1_whyNot_1 : decode cX1_whyNot 1 = .ok (.iload_n 2, 1) := dk_28 (dk_at dksX1_whyNot_0 1 rfl rfl)
theorem dX1_whyNot_2 : decode cX1_whyNot 2 = .ok (.iaload, 1) := dk_46 (dk_at dksX1_whyNot_0 2 rfl rfl)
theorem dX1_whyNot_3 : decode cX1_whyNot 3 = .ok (.lookupswitch 75 #[(100, 25), (116, 57)], 25) := by decide +kernel
theorem dX1_whyNot_28 : decode cX1_whyNot 28 = .ok (.aload_n 0, 1) := dk_42 (dk_at dksX1_whyNot_2 0 rfl rfl)
theorem dX1_whyNot_29 : decode cX1_whyNot 29 = .ok (.bipush 8, 2) := dk_16 8 (dk_at dksX1_whyNot_2 1 rfl rfl)
theorem dX1_whyNot_31 : decode cX1_whyNot 31 = .ok (.aload_n 1, 1) := dk_43 (dk_at dksX1_whyNot_2 3 rfl rfl)
theorem dX1_whyNot_32 : decode cX1_whyNot 32 = .ok (.iload_n 2, 1) := dk_28 (dk_at dksX1_whyNot_2 4 rfl rfl)
theorem dX1_whyNot_33 : decode cX1_whyNot 33 = .ok (.iconst 1, 1) := dk_4 (dk_at dksX1_whyNot_2 5 rfl rfl)
theorem dX1_whyNot_34 : decode cX1_whyNot 34 = .ok (.iadd, 1) := dk_96 (dk_at dksX1_whyNot_2 6 rfl rfl)
theorem dX1_whyNot_35 : decode cX1_whyNot 35 = .ok (.iaload, 1) := dk_46 (dk_at dksX1_whyNot_2 7 rfl rfl)
theorem dX1_whyNot_36 : decode cX1_whyNot 36 = .ok (.imul, 1) := dk_104 (dk_at dksX1_whyNot_2 8 rfl rfl)
theorem dX1_whyNot_37 : decode cX1_whyNot 37 = .ok (.aload_n 1, 1) := dk_43 (dk_at dksX1_whyNot_2 9 rfl rfl)
theorem dX1_whyNot_38 : decode cX1_whyNot 38 = .ok (.iload_n 2, 1) := dk_28 (dk_at dksX1_whyNot_2 10 rfl rfl)
theorem dX1_whyNot_39 : decode cX1_whyNot 39 = .ok (.iconst 2, 1) := dk_5 (dk_at dksX1_whyNot_2 11 rfl rfl)
theorem dX1_whyNot_40 : decode cX1_whyNot 40 = .ok (.iadd, 1) := dk_96 (dk_at dksX1_whyNot_2 12 rfl rfl)
theorem dX1_whyNot_41 : decode cX1_whyNot 41 = .ok (.iaload, 1) := dk_46 (dk_at dksX1_whyNot_2 13 rfl rfl)
theorem dX1_whyNot_42 : decode cX1_whyNot 42 = .ok (.iadd, 1) := dk_96 (dk_at dksX1_whyNot_2 14 rfl rfl)
theorem dX1_whyNot_43 : decode cX1_whyNot 43 = .ok (.aload_n 1, 1) := dk_43 (dk_at dksX1_whyNot_2 15 rfl rfl)
theorem dX1_whyNot_44 : decode cX1_whyNot 44 = .ok (.iload_n 2, 1) := dk_28 (dk_at dksX1_whyNot_2 16 rfl rfl)
theorem dX1_whyNot_45 : decode cX1_whyNot 45 = .ok (.iconst 3, 1) := dk_6 (dk_at dksX1_whyNot_2 17 rfl rfl)
theorem dX1_whyNot_46 : decode cX1_whyNot 46 = .ok (.iadd, 1) := dk_96 (dk_at dksX1_whyNot_2 18 rfl rfl)
theorem dX1_whyNot_47 : decode cX1_whyNot 47 = .ok (.iaload, 1) := dk_46 (dk_at dksX1_whyNot_2 19 rfl rfl)
theorem dX1_whyNot_48 : decode cX1_whyNot 48 = .ok (.invokevirtual 153, 3) := dk_182 0 153 (dk_at dksX1_whyNot_2 20 rfl rfl)
theorem dX1_whyNot_51 : decode cX1_whyNot 51 = .ok (.ifCond .eq 7, 3) := dk_153 0 7 (dk_at dksX1_whyNot_3 0 rfl rfl)
theorem dX1_whyNot_54 : decode cX1_whyNot 54 = .ok (.iconst 0, 1) := dk_3 (dk_at dksX1_whyNot_3 3 rfl rfl)
theorem dX1_whyNot_55 : decode cX1_whyNot 55 = .ok (.goto 4, 3) := dk_167 0 4 (dk_at dksX1_whyNot_3 4 rfl rfl)
theorem dX1_whyNot_58 : decode cX1_whyNot 58 = .ok (.iconst 1, 1) := dk_4 (dk_at dksX1_whyNot_3 7 rfl rfl)
theorem dX1_whyNot_59 : decode cX1_whyNot 59 = .ok (.ireturn, 1) := dk_172 (dk_at dksX1_whyNot_3 8 rfl rfl)
theorem dX1_whyNot_60 : decode cX1_whyNot 60 = .ok (.aload_n 0, 1) := dk_42 (dk_at dksX1_whyNot_3 9 rfl rfl)
theorem dX1_whyNot_61 : decode cX1_whyNot 61 = .ok (.aload_n 1, 1) := dk_43 (dk_at dksX1_whyNot_3 10 rfl rfl)
theorem dX1_whyNot_62 : decode cX1_whyNot 62 = .ok (.iload_n 2, 1) := dk_28 (dk_at dksX1_whyNot_3 11 rfl rfl)
theorem dX1_whyNot_63 : decode cX1_whyNot 63 = .ok (.iconst 1, 1) := dk_4 (dk_at dksX1_whyNot_3 12 rfl rfl)
theorem dX1_whyNot_64 : decode cX1_whyNot 64 = .ok (.iadd, 1) := dk_96 (dk_at dksX1_whyNot_3 13 rfl rfl)
theorem dX1_whyNot_65 : decode cX1_whyNot 65 = .ok (.iaload, 1) := dk_46 (dk_at dksX1_whyNot_3 14 rfl rfl)
theorem dX1_whyNot_66 : decode cX1_whyNot 66 = .ok (.invokevirtual 183, 3) := dk_182 0 183 (dk_at dksX1_whyNot_3 15 rfl rfl)
theorem dX1_whyNot_69 : decode cX1_whyNot 69 = .ok (.ifCond .le 7, 3) := dk_158 0 7 (dk_at dksX1_whyNot_3 18 rfl rfl)
theorem dX1_whyNot_72 : decode cX1_whyNot 72 = .ok (.iconst 0, 1) := dk_3 (dk_at dksX1_whyNot_3 21 rfl rfl)
theorem dX1_whyNot_73 : decode cX1_whyNot 73 = .ok (.goto 4, 3) := dk_167 0 4 (dk_at dksX1_whyNot_4 0 rfl rfl)
theorem dX1_whyNot_76 : decode cX1_whyNot 76 = .ok (.iconst 2, 1) := dk_5 (dk_at dksX1_whyNot_4 3 rfl rfl)
theorem dX1_whyNot_77 : decode cX1_whyNot 77 = .ok (.ireturn, 1) := dk_172 (dk_at dksX1_whyNot_4 4 rfl rfl)
theorem dX1_whyNot_78 : decode cX1_whyNot 78 = .ok (.iconst 0, 1) := dk_3 (dk_at dksX1_whyNot_4 5 rfl rfl)
theorem dX1_whyNot_79 : decode cX1_whyNot 79 = .ok (.ireturn, 1) := dk_172 (dk_at dksX1_whyNot_4 6 rfl rfl)
abbrev cX1_act : ByteArray := prog_1_method_32_code
def yX1_act : MethodName := ⟨RX1, "act", "([II)V"⟩
def dkwX1_act_6 : List UInt8 := [180, 0, 16, 42, 180, 0, 57, 4, 182, 0, 195, 87, 167, 0, 11, 42, 180, 0, 16, 182, 0, 199, 87, 177]
abbrev dktX1_act_6 : List UInt8 := dkwX1_act_6 ++ []
def dkwX1_act_5 : List UInt8 := [182, 0, 192, 87, 167, 0, 43, 42, 180, 0, 16, 42, 180, 0, 57, 3, 182, 0, 195, 87, 167, 0, 27, 42]
abbrev dktX1_act_5 : List UInt8 := dkwX1_act_5 ++ dktX1_act_6
def dkwX1_act_4 : List UInt8 := [180, 0, 16, 42, 182, 0, 186, 182, 0, 157, 87, 167, 0, 59, 42, 180, 0, 16, 43, 28, 4, 96, 46]
abbrev dktX1_act_4 : List UInt8 := dkwX1_act_4 ++ dktX1_act_5
def dkwX1_act_3 : List UInt8 := [182, 0, 130, 87, 167, 0, 89, 42, 180, 0, 16, 42, 180, 0, 57, 182, 0, 157, 87, 167, 0, 74, 42]
abbrev dktX1_act_3 : List UInt8 := dkwX1_act_3 ++ dktX1_act_4
def dkwX1_act_2 : List UInt8 := [42, 180, 0, 16, 16, 8, 43, 28, 4, 96, 46, 104, 43, 28, 5, 96, 46, 96, 43, 28, 6, 96, 46]
abbrev dktX1_act_2 : List UInt8 := dkwX1_act_2 ++ dktX1_act_3
def dkwX1_act_1 : List UInt8 := [170, 0, 0, 0, 189, 0, 0, 0, 100, 0, 0, 0, 116, 0, 0, 0, 111, 0, 0, 0, 189, 0, 0, 0, 189, 0, 0, 0, 189, 0, 0, 0, 189, 0, 0, 0, 189, 0, 0, 0, 189, 0, 0, 0, 189, 0, 0, 0, 141, 0, 0, 0, 173, 0, 0, 0, 189, 0, 0, 0, 189, 0, 0, 0, 81, 0, 0, 0, 189, 0, 0, 0, 157, 0, 0, 0, 189, 0, 0, 0, 126]
abbrev dktX1_act_1 : List UInt8 := dkwX1_act_1 ++ dktX1_act_2
def dkwX1_act_0 : List UInt8 := [43, 28, 46]
abbrev dktX1_act_0 : List UInt8 := dkwX1_act_0 ++ dktX1_act_1
theorem dksX1_act_0 : cX1_act.data.toList.drop 0 = dktX1_act_0 := by decide +kernel
theorem dksX1_act_1 : cX1_act.data.toList.drop 3 = dktX1_act_1 := dk_seg dksX1_act_0 3 rfl rfl
theorem dksX1_act_2 : cX1_act.data.toList.drop 84 = dktX1_act_2 := dk_seg dksX1_act_1 81 rfl rfl
theorem dksX1_act_3 : cX1_act.data.toList.drop 107 = dktX1_act_3 := dk_seg dksX1_act_2 23 rfl rfl
theorem dksX1_act_4 : cX1_act.data.toList.drop 130 = dktX1_act_4 := dk_seg dksX1_act_3 23 rfl rfl
theorem dksX1_act_5 : cX1_act.data.toList.drop 153 = dktX1_act_5 := dk_seg dksX1_act_4 23 rfl rfl
theorem dksX1_act_6 : cX1_act.data.toList.drop 177 = dktX1_act_6 := dk_seg dksX1_act_5 24 rfl rfl
theorem dX1_act_0 : decode cX1_act 0 = .ok (.aload_n 1, 1) := dk_43 (dk_at dksX1_act_0 0 rfl rfl)
theorem dX1_act_1 : decode cX1_act 1 = .ok (.iload_n 2, 1) := dk_28 (dk_at dksX1_act_0 1 rfl rfl)
theorem dX1_act_2 : decode cX1_act 2 = .ok (.iaload, 1) := dk_46 (dk_at dksX1_act_0 2 rfl rfl)
theorem dX1_act_3 : decode cX1_act 3 = .ok (.tableswitch 189 100 116 #[111, 189, 189, 189, 189, 189, 189, 189, 141, 173, 189, 189, 81, 189, 157, 189, 126], 81) := by decide +kernel
theorem dX1_act_84 : decode cX1_act 84 = .ok (.aload_n 0, 1) := dk_42 (dk_at dksX1_act_2 0 rfl rfl)
theorem dX1_act_85 : decode cX1_act 85 = .ok (.getfield 16, 3) := dk_180 0 16 (dk_at dksX1_act_2 1 rfl rfl)
theorem dX1_act_88 : decode cX1_act 88 = .ok (.bipush 8, 2) := dk_16 8 (dk_at dksX1_act_2 4 rfl rfl)
theorem dX1_act_90 : decode cX1_act 90 = .ok (.aload_n 1, 1) := dk_43 (dk_at dksX1_act_2 6 rfl rfl)
theorem dX1_act_91 : decode cX1_act 91 = .ok (.iload_n 2, 1) := dk_28 (dk_at dksX1_act_2 7 rfl rfl)
theorem dX1_act_92 : decode cX1_act 92 = .ok (.iconst 1, 1) := dk_4 (dk_at dksX1_act_2 8 rfl rfl)
theorem dX1_act_93 : decode cX1_act 93 = .ok (.iadd, 1) := dk_96 (dk_at dksX1_act_2 9 rfl rfl)
theorem dX1_act_94 : decode cX1_act 94 = .ok (.iaload, 1) := dk_46 (dk_at dksX1_act_2 10 rfl rfl)
theorem dX1_act_95 : decode cX1_act 95 = .ok (.imul, 1) := dk_104 (dk_at dksX1_act_2 11 rfl rfl)
theorem dX1_act_96 : decode cX1_act 96 = .ok (.aload_n 1, 1) := dk_43 (dk_at dksX1_act_2 12 rfl rfl)
theorem dX1_act_97 : decode cX1_act 97 = .ok (.iload_n 2, 1) := dk_28 (dk_at dksX1_act_2 13 rfl rfl)
theorem dX1_act_98 : decode cX1_act 98 = .ok (.iconst 2, 1) := dk_5 (dk_at dksX1_act_2 14 rfl rfl)
theorem dX1_act_99 : decode cX1_act 99 = .ok (.iadd, 1) := dk_96 (dk_at dksX1_act_2 15 rfl rfl)
theorem dX1_act_100 : decode cX1_act 100 = .ok (.iaload, 1) := dk_46 (dk_at dksX1_act_2 16 rfl rfl)
theorem dX1_act_101 : decode cX1_act 101 = .ok (.iadd, 1) := dk_96 (dk_at dksX1_act_2 17 rfl rfl)
theorem dX1_act_102 : decode cX1_act 102 = .ok (.aload_n 1, 1) := dk_43 (dk_at dksX1_act_2 18 rfl rfl)
theorem dX1_act_103 : decode cX1_act 103 = .ok (.iload_n 2, 1) := dk_28 (dk_at dksX1_act_2 19 rfl rfl)
theorem dX1_act_104 : decode cX1_act 104 = .ok (.iconst 3, 1) := dk_6 (dk_at dksX1_act_2 20 rfl rfl)
theorem dX1_act_105 : decode cX1_act 105 = .ok (.iadd, 1) := dk_96 (dk_at dksX1_act_2 21 rfl rfl)
theorem dX1_act_106 : decode cX1_act 106 = .ok (.iaload, 1) := dk_46 (dk_at dksX1_act_2 22 rfl rfl)
theorem dX1_act_107 : decode cX1_act 107 = .ok (.invokevirtual 130, 3) := dk_182 0 130 (dk_at dksX1_act_3 0 rfl rfl)
theorem dX1_act_110 : decode cX1_act 110 = .ok (.pop, 1) := dk_87 (dk_at dksX1_act_3 3 rfl rfl)
theorem dX1_act_111 : decode cX1_act 111 = .ok (.goto 89, 3) := dk_167 0 89 (dk_at dksX1_act_3 4 rfl rfl)
theorem dX1_act_114 : decode cX1_act 114 = .ok (.aload_n 0, 1) := dk_42 (dk_at dksX1_act_3 7 rfl rfl)
theorem dX1_act_115 : decode cX1_act 115 = .ok (.getfield 16, 3) := dk_180 0 16 (dk_at dksX1_act_3 8 rfl rfl)
theorem dX1_act_118 : decode cX1_act 118 = .ok (.aload_n 0, 1) := dk_42 (dk_at dksX1_act_3 11 rfl rfl)
theorem dX1_act_119 : decode cX1_act 119 = .ok (.getfield 57, 3) := dk_180 0 57 (dk_at dksX1_act_3 12 rfl rfl)
theorem dX1_act_122 : decode cX1_act 122 = .ok (.invokevirtual 157, 3) := dk_182 0 157 (dk_at dksX1_act_3 15 rfl rfl)
theorem dX1_act_125 : decode cX1_act 125 = .ok (.pop, 1) := dk_87 (dk_at dksX1_act_3 18 rfl rfl)
theorem dX1_act_126 : decode cX1_act 126 = .ok (.goto 74, 3) := dk_167 0 74 (dk_at dksX1_act_3 19 rfl rfl)
theorem dX1_act_129 : decode cX1_act 129 = .ok (.aload_n 0, 1) := dk_42 (dk_at dksX1_act_3 22 rfl rfl)
theorem dX1_act_130 : decode cX1_act 130 = .ok (.getfield 16, 3) := dk_180 0 16 (dk_at dksX1_act_4 0 rfl rfl)
theorem dX1_act_133 : decode cX1_act 133 = .ok (.aload_n 0, 1) := dk_42 (dk_at dksX1_act_4 3 rfl rfl)
theorem dX1_act_134 : decode cX1_act 134 = .ok (.invokevirtual 186, 3) := dk_182 0 186 (dk_at dksX1_act_4 4 rfl rfl)
theorem dX1_act_137 : decode cX1_act 137 = .ok (.invokevirtual 157, 3) := dk_182 0 157 (dk_at dksX1_act_4 7 rfl rfl)
theorem dX1_act_140 : decode cX1_act 140 = .ok (.pop, 1) := dk_87 (dk_at dksX1_act_4 10 rfl rfl)
theorem dX1_act_141 : decode cX1_act 141 = .ok (.goto 59, 3) := dk_167 0 59 (dk_at dksX1_act_4 11 rfl rfl)
theorem dX1_act_144 : decode cX1_act 144 = .ok (.aload_n 0, 1) := dk_42 (dk_at dksX1_act_4 14 rfl rfl)
theorem dX1_act_145 : decode cX1_act 145 = .ok (.getfield 16, 3) := dk_180 0 16 (dk_at dksX1_act_4 15 rfl rfl)
theorem dX1_act_148 : decode cX1_act 148 = .ok (.aload_n 1, 1) := dk_43 (dk_at dksX1_act_4 18 rfl rfl)
theorem dX1_act_149 : decode cX1_act 149 = .ok (.iload_n 2, 1) := dk_28 (dk_at dksX1_act_4 19 rfl rfl)
theorem dX1_act_150 : decode cX1_act 150 = .ok (.iconst 1, 1) := dk_4 (dk_at dksX1_act_4 20 rfl rfl)
theorem dX1_act_151 : decode cX1_act 151 = .ok (.iadd, 1) := dk_96 (dk_at dksX1_act_4 21 rfl rfl)
theorem dX1_act_152 : decode cX1_act 152 = .ok (.iaload, 1) := dk_46 (dk_at dksX1_act_4 22 rfl rfl)
theorem dX1_act_153 : decode cX1_act 153 = .ok (.invokevirtual 192, 3) := dk_182 0 192 (dk_at dksX1_act_5 0 rfl rfl)
theorem dX1_act_156 : decode cX1_act 156 = .ok (.pop, 1) := dk_87 (dk_at dksX1_act_5 3 rfl rfl)
theorem dX1_act_157 : decode cX1_act 157 = .ok (.goto 43, 3) := dk_167 0 43 (dk_at dksX1_act_5 4 rfl rfl)
theorem dX1_act_160 : decode cX1_act 160 = .ok (.aload_n 0, 1) := dk_42 (dk_at dksX1_act_5 7 rfl rfl)
theorem dX1_act_161 : decode cX1_act 161 = .ok (.getfield 16, 3) := dk_180 0 16 (dk_at dksX1_act_5 8 rfl rfl)
theorem dX1_act_164 : decode cX1_act 164 = .ok (.aload_n 0, 1) := dk_42 (dk_at dksX1_act_5 11 rfl rfl)
theorem dX1_act_165 : decode cX1_act 165 = .ok (.getfield 57, 3) := dk_180 0 57 (dk_at dksX1_act_5 12 rfl rfl)
theorem dX1_act_168 : decode cX1_act 168 = .ok (.iconst 0, 1) := dk_3 (dk_at dksX1_act_5 15 rfl rfl)
theorem dX1_act_169 : decode cX1_act 169 = .ok (.invokevirtual 195, 3) := dk_182 0 195 (dk_at dksX1_act_5 16 rfl rfl)
theorem dX1_act_172 : decode cX1_act 172 = .ok (.pop, 1) := dk_87 (dk_at dksX1_act_5 19 rfl rfl)
theorem dX1_act_173 : decode cX1_act 173 = .ok (.goto 27, 3) := dk_167 0 27 (dk_at dksX1_act_5 20 rfl rfl)
theorem dX1_act_176 : decode cX1_act 176 = .ok (.aload_n 0, 1) := dk_42 (dk_at dksX1_act_5 23 rfl rfl)
theorem dX1_act_177 : decode cX1_act 177 = .ok (.getfield 16, 3) := dk_180 0 16 (dk_at dksX1_act_6 0 rfl rfl)
theorem dX1_act_180 : decode cX1_act 180 = .ok (.aload_n 0, 1) := dk_42 (dk_at dksX1_act_6 3 rfl rfl)
theorem dX1_act_181 : decode cX1_act 181 = .ok (.getfield 57, 3) := dk_180 0 57 (dk_at dksX1_act_6 4 rfl rfl)
theorem dX1_act_184 : decode cX1_act 184 = .ok (.iconst 1, 1) := dk_4 (dk_at dksX1_act_6 7 rfl rfl)
theorem dX1_act_185 : decode cX1_act 185 = .ok (.invokevirtual 195, 3) := dk_182 0 195 (dk_at dksX1_act_6 8 rfl rfl)
theorem dX1_act_188 : decode cX1_act 188 = .ok (.pop, 1) := dk_87 (dk_at dksX1_act_6 11 rfl rfl)
theorem dX1_act_189 : decode cX1_act 189 = .ok (.goto 11, 3) := dk_167 0 11 (dk_at dksX1_act_6 12 rfl rfl)
theorem dX1_act_192 : decode cX1_act 192 = .ok (.aload_n 0, 1) := dk_42 (dk_at dksX1_act_6 15 rfl rfl)
theorem dX1_act_193 : decode cX1_act 193 = .ok (.getfield 16, 3) := dk_180 0 16 (dk_at dksX1_act_6 16 rfl rfl)
theorem dX1_act_196 : decode cX1_act 196 = .ok (.invokevirtual 199, 3) := dk_182 0 199 (dk_at dksX1_act_6 19 rfl rfl)
theorem dX1_act_199 : decode cX1_act 199 = .ok (.pop, 1) := dk_87 (dk_at dksX1_act_6 22 rfl rfl)
theorem dX1_act_200 : decode cX1_act 200 = .ok (.return_, 1) := dk_177 (dk_at dksX1_act_6 23 rfl rfl)
abbrev cX1_stoppedPart : ByteArray := prog_1_method_35_code
def yX1_stoppedPart : MethodName := ⟨RX1, "stoppedPart", "()I"⟩
def dkwX1_stoppedPart_1 : List UInt8 := [180, 0, 238, 172]
abbrev dktX1_stoppedPart_1 : List UInt8 := dkwX1_stoppedPart_1 ++ []
def dkwX1_stoppedPart_0 : List UInt8 := [42, 180, 0, 16, 180, 0, 238, 2, 159, 0, 7, 4, 167, 0, 4, 3, 184, 0, 133, 42, 180, 0, 16]
abbrev dktX1_stoppedPart_0 : List UInt8 := dkwX1_stoppedPart_0 ++ dktX1_stoppedPart_1
theorem dksX1_stoppedPart_0 : cX1_stoppedPart.data.toList.drop 0 = dktX1_stoppedPart_0 := by decide +kernel
theorem dksX1_stoppedPart_1 : cX1_stoppedPart.data.toList.drop 23 = dktX1_stoppedPart_1 := dk_seg dksX1_stoppedPart_0 23 rfl rfl
theorem dX1_stoppedPart_0 : decode cX1_stoppedPart 0 = .ok (.aload_n 0, 1) := dk_42 (dk_at dksX1_stoppedPart_0 0 rfl rfl)
theorem dX1_stoppedPart_1 : decode cX1_stoppedPart 1 = .ok (.getfield 16, 3) := dk_180 0 16 (dk_at dksX1_stoppedPart_0 1 rfl rfl)
theorem dX1_stoppedPart_4 : decode cX1_stoppedPart 4 = .ok (.getfield 238, 3) := dk_180 0 238 (dk_at dksX1_stoppedPart_0 4 rfl rfl)
theorem dX1_stoppedPart_7 : decode cX1_stoppedPart 7 = .ok (.iconst (-1), 1) := dk_2 (dk_at dksX1_stoppedPart_0 7 rfl rfl)
theorem dX1_stoppedPart_8 : decode cX1_stoppedPart 8 = .ok (.if_icmp .eq 7, 3) := dk_159 0 7 (dk_at dksX1_stoppedPart_0 8 rfl rfl)
theorem dX1_stoppedPart_11 : decode cX1_stoppedPart 11 = .ok (.iconst 1, 1) := dk_4 (dk_at dksX1_stoppedPart_0 11 rfl rfl)
theorem dX1_stoppedPart_12 : decode cX1_stoppedPart 12 = .ok (.goto 4, 3) := dk_167 0 4 (dk_at dksX1_stoppedPart_0 12 rfl rfl)
theorem dX1_stoppedPart_15 : decode cX1_stoppedPart 15 = .ok (.iconst 0, 1) := dk_3 (dk_at dksX1_stoppedPart_0 15 rfl rfl)
theorem dX1_stoppedPart_16 : decode cX1_stoppedPart 16 = .ok (.invokestatic 133, 3) := dk_184 0 133 (dk_at dksX1_stoppedPart_0 16 rfl rfl)
theorem dX1_stoppedPart_19 : decode cX1_stoppedPart 19 = .ok (.aload_n 0, 1) := dk_42 (dk_at dksX1_stoppedPart_0 19 rfl rfl)
theorem dX1_stoppedPart_20 : decode cX1_stoppedPart 20 = .ok (.getfield 16, 3) := dk_180 0 16 (dk_at dksX1_stoppedPart_0 20 rfl rfl)
theorem dX1_stoppedPart_23 : decode cX1_stoppedPart 23 = .ok (.getfield 238, 3) := dk_180 0 238 (dk_at dksX1_stoppedPart_1 0 rfl rfl)
theorem dX1_stoppedPart_26 : decode cX1_stoppedPart 26 = .ok (.ireturn, 1) := dk_172 (dk_at dksX1_stoppedPart_1 3 rfl rfl)
abbrev cX1_whyStopped : ByteArray := prog_1_method_36_code
def yX1_whyStopped : MethodName := ⟨RX1, "whyStopped", "()I"⟩
def dkwX1_whyStopped_1 : List UInt8 := [180, 0, 241, 172]
abbrev dktX1_whyStopped_1 : List UInt8 := dkwX1_whyStopped_1 ++ []
def dkwX1_whyStopped_0 : List UInt8 := [42, 180, 0, 16, 180, 0, 238, 2, 159, 0, 7, 4, 167, 0, 4, 3, 184, 0, 133, 42, 180, 0, 16]
abbrev dktX1_whyStopped_0 : List UInt8 := dkwX1_whyStopped_0 ++ dktX1_whyStopped_1
theorem dksX1_whyStopped_0 : cX1_whyStopped.data.toList.drop 0 = dktX1_whyStopped_0 := by decide +kernel
theorem dksX1_whyStopped_1 : cX1_whyStopped.data.toList.drop 23 = dktX1_whyStopped_1 := dk_seg dksX1_whyStopped_0 23 rfl rfl
theorem dX1_whyStopped_0 : decode cX1_whyStopped 0 = .ok (.aload_n 0, 1) := dk_42 (dk_at dksX1_whyStopped_0 0 rfl rfl)
theorem dX1_whyStopped_1 : decode cX1_whyStopped 1 = .ok (.getfield 16, 3) := dk_180 0 16 (dk_at dksX1_whyStopped_0 1 rfl rfl)
theorem dX1_whyStopped_4 : decode cX1_whyStopped 4 = .ok (.getfield 238, 3) := dk_180 0 238 (dk_at dksX1_whyStopped_0 4 rfl rfl)
theorem dX1_whyStopped_7 : decode cX1_whyStopped 7 = .ok (.iconst (-1), 1) := dk_2 (dk_at dksX1_whyStopped_0 7 rfl rfl)
theorem dX1_whyStopped_8 : decode cX1_whyStopped 8 = .ok (.if_icmp .eq 7, 3) := dk_159 0 7 (dk_at dksX1_whyStopped_0 8 rfl rfl)
theorem dX1_whyStopped_11 : decode cX1_whyStopped 11 = .ok (.iconst 1, 1) := dk_4 (dk_at dksX1_whyStopped_0 11 rfl rfl)
theorem dX1_whyStopped_12 : decode cX1_whyStopped 12 = .ok (.goto 4, 3) := dk_167 0 4 (dk_at dksX1_whyStopped_0 12 rfl rfl)
theorem dX1_whyStopped_15 : decode cX1_whyStopped 15 = .ok (.iconst 0, 1) := dk_3 (dk_at dksX1_whyStopped_0 15 rfl rfl)
theorem dX1_whyStopped_16 : decode cX1_whyStopped 16 = .ok (.invokestatic 133, 3) := dk_184 0 133 (dk_at dksX1_whyStopped_0 16 rfl rfl)
theorem dX1_whyStopped_19 : decode cX1_whyStopped 19 = .ok (.aload_n 0, 1) := dk_42 (dk_at dksX1_whyStopped_0 19 rfl rfl)
theorem dX1_whyStopped_20 : decode cX1_whyStopped 20 = .ok (.getfield 16, 3) := dk_180 0 16 (dk_at dksX1_whyStopped_0 20 rfl rfl)
theorem dX1_whyStopped_23 : decode cX1_whyStopped 23 = .ok (.getfield 241, 3) := dk_180 0 241 (dk_at dksX1_whyStopped_1 0 rfl rfl)
theorem dX1_whyStopped_26 : decode cX1_whyStopped 26 = .ok (.ireturn, 1) := dk_172 (dk_at dksX1_whyStopped_1 3 rfl rfl)
abbrev cX1_undo : ByteArray := prog_1_method_37_code
def yX1_undo : MethodName := ⟨RX1, "undo", "()I"⟩
def dkwX1_undo_2 : List UInt8 := [180, 0, 63, 182, 0, 74, 172]
abbrev dktX1_undo_2 : List UInt8 := dkwX1_undo_2 ++ []
def dkwX1_undo_1 : List UInt8 := [180, 0, 63, 42, 180, 0, 63, 182, 0, 74, 4, 100, 182, 0, 78, 192, 0, 13, 182, 0, 82, 87, 42]
abbrev dktX1_undo_1 : List UInt8 := dkwX1_undo_1 ++ dktX1_undo_2
def dkwX1_undo_0 : List UInt8 := [42, 180, 0, 63, 182, 0, 244, 154, 0, 7, 4, 167, 0, 4, 3, 184, 0, 133, 42, 180, 0, 16, 42]
abbrev dktX1_undo_0 : List UInt8 := dkwX1_undo_0 ++ dktX1_undo_1
theorem dksX1_undo_0 : cX1_undo.data.toList.drop 0 = dktX1_undo_0 := by decide +kernel
theorem dksX1_undo_1 : cX1_undo.data.toList.drop 23 = dktX1_undo_1 := dk_seg dksX1_undo_0 23 rfl rfl
theorem dksX1_undo_2 : cX1_undo.data.toList.drop 46 = dktX1_undo_2 := dk_seg dksX1_undo_1 23 rfl rfl
theorem dX1_undo_0 : decode cX1_undo 0 = .ok (.aload_n 0, 1) := dk_42 (dk_at dksX1_undo_0 0 rfl rfl)
theorem dX1_undo_1 : decode cX1_undo 1 = .ok (.getfield 63, 3) := dk_180 0 63 (dk_at dksX1_undo_0 1 rfl rfl)
theorem dX1_undo_4 : decode cX1_undo 4 = .ok (.invokevirtual 244, 3) := dk_182 0 244 (dk_at dksX1_undo_0 4 rfl rfl)
theorem dX1_undo_7 : decode cX1_undo 7 = .ok (.ifCond .ne 7, 3) := dk_154 0 7 (dk_at dksX1_undo_0 7 rfl rfl)
theorem dX1_undo_10 : decode cX1_undo 10 = .ok (.iconst 1, 1) := dk_4 (dk_at dksX1_undo_0 10 rfl rfl)
theorem dX1_undo_11 : decode cX1_undo 11 = .ok (.goto 4, 3) := dk_167 0 4 (dk_at dksX1_undo_0 11 rfl rfl)
theorem dX1_undo_14 : decode cX1_undo 14 = .ok (.iconst 0, 1) := dk_3 (dk_at dksX1_undo_0 14 rfl rfl)
theorem dX1_undo_15 : decode cX1_undo 15 = .ok (.invokestatic 133, 3) := dk_184 0 133 (dk_at dksX1_undo_0 15 rfl rfl)
theorem dX1_undo_18 : decode cX1_undo 18 = .ok (.aload_n 0, 1) := dk_42 (dk_at dksX1_undo_0 18 rfl rfl)
theorem dX1_undo_19 : decode cX1_undo 19 = .ok (.getfield 16, 3) := dk_180 0 16 (dk_at dksX1_undo_0 19 rfl rfl)
theorem dX1_undo_22 : decode cX1_undo 22 = .ok (.aload_n 0, 1) := dk_42 (dk_at dksX1_undo_0 22 rfl rfl)
theorem dX1_undo_23 : decode cX1_undo 23 = .ok (.getfield 63, 3) := dk_180 0 63 (dk_at dksX1_undo_1 0 rfl rfl)
theorem dX1_undo_26 : decode cX1_undo 26 = .ok (.aload_n 0, 1) := dk_42 (dk_at dksX1_undo_1 3 rfl rfl)
theorem dX1_undo_27 : decode cX1_undo 27 = .ok (.getfield 63, 3) := dk_180 0 63 (dk_at dksX1_undo_1 4 rfl rfl)
theorem dX1_undo_30 : decode cX1_undo 30 = .ok (.invokevirtual 74, 3) := dk_182 0 74 (dk_at dksX1_undo_1 7 rfl rfl)
theorem dX1_undo_33 : decode cX1_undo 33 = .ok (.iconst 1, 1) := dk_4 (dk_at dksX1_undo_1 10 rfl rfl)
theorem dX1_undo_34 : decode cX1_undo 34 = .ok (.isub, 1) := dk_100 (dk_at dksX1_undo_1 11 rfl rfl)
theorem dX1_undo_35 : decode cX1_undo 35 = .ok (.invokevirtual 78, 3) := dk_182 0 78 (dk_at dksX1_undo_1 12 rfl rfl)
theorem dX1_undo_38 : decode cX1_undo 38 = .ok (.checkcast 13, 3) := dk_192 0 13 (dk_at dksX1_undo_1 15 rfl rfl)
theorem dX1_undo_41 : decode cX1_undo 41 = .ok (.invokevirtual 82, 3) := dk_182 0 82 (dk_at dksX1_undo_1 18 rfl rfl)
theorem dX1_undo_44 : decode cX1_undo 44 = .ok (.pop, 1) := dk_87 (dk_at dksX1_undo_1 21 rfl rfl)
theorem dX1_undo_45 : decode cX1_undo 45 = .ok (.aload_n 0, 1) := dk_42 (dk_at dksX1_undo_1 22 rfl rfl)
theorem dX1_undo_46 : decode cX1_undo 46 = .ok (.getfield 63, 3) := dk_180 0 63 (dk_at dksX1_undo_2 0 rfl rfl)
theorem dX1_undo_49 : decode cX1_undo 49 = .ok (.invokevirtual 74, 3) := dk_182 0 74 (dk_at dksX1_undo_2 3 rfl rfl)
theorem dX1_undo_52 : decode cX1_undo 52 = .ok (.ireturn, 1) := dk_172 (dk_at dksX1_undo_2 6 rfl rfl)
abbrev cX1_restore : ByteArray := prog_1_method_39_code
def yX1_restore : MethodName := ⟨RX1, "restore", "()I"⟩
def dkwX1_restore_1 : List UInt8 := [180, 0, 247, 182, 0, 82, 182, 0, 250, 172]
abbrev dktX1_restore_1 : List UInt8 := dkwX1_restore_1 ++ []
def dkwX1_restore_0 : List UInt8 := [42, 180, 0, 247, 198, 0, 7, 4, 167, 0, 4, 3, 184, 0, 133, 42, 182, 0, 127, 42, 180, 0, 16, 42]
abbrev dktX1_restore_0 : List UInt8 := dkwX1_restore_0 ++ dktX1_restore_1
theorem dksX1_restore_0 : cX1_restore.data.toList.drop 0 = dktX1_restore_0 := by decide +kernel
theorem dksX1_restore_1 : cX1_restore.data.toList.drop 24 = dktX1_restore_1 := dk_seg dksX1_restore_0 24 rfl rfl
theorem dX1_restore_0 : decode cX1_restore 0 = .ok (.aload_n 0, 1) := dk_42 (dk_at dksX1_restore_0 0 rfl rfl)
theorem dX1_restore_1 : decode cX1_restore 1 = .ok (.getfield 247, 3) := dk_180 0 247 (dk_at dksX1_restore_0 1 rfl rfl)
theorem dX1_restore_4 : decode cX1_restore 4 = .ok (.ifnull 7, 3) := dk_198 0 7 (dk_at dksX1_restore_0 4 rfl rfl)
theorem dX1_restore_7 : decode cX1_restore 7 = .ok (.iconst 1, 1) := dk_4 (dk_at dksX1_restore_0 7 rfl rfl)
theorem dX1_restore_8 : decode cX1_restore 8 = .ok (.goto 4, 3) := dk_167 0 4 (dk_at dksX1_restore_0 8 rfl rfl)
theorem dX1_restore_11 : decode cX1_restore 11 = .ok (.iconst 0, 1) := dk_3 (dk_at dksX1_restore_0 11 rfl rfl)
theorem dX1_restore_12 : decode cX1_restore 12 = .ok (.invokestatic 133, 3) := dk_184 0 133 (dk_at dksX1_restore_0 12 rfl rfl)
theorem dX1_restore_15 : decode cX1_restore 15 = .ok (.aload_n 0, 1) := dk_42 (dk_at dksX1_restore_0 15 rfl rfl)
theorem dX1_restore_16 : decode cX1_restore 16 = .ok (.invokevirtual 127, 3) := dk_182 0 127 (dk_at dksX1_restore_0 16 rfl rfl)
theorem dX1_restore_19 : decode cX1_restore 19 = .ok (.aload_n 0, 1) := dk_42 (dk_at dksX1_restore_0 19 rfl rfl)
theorem dX1_restore_20 : decode cX1_restore 20 = .ok (.getfield 16, 3) := dk_180 0 16 (dk_at dksX1_restore_0 20 rfl rfl)
theorem dX1_restore_23 : decode cX1_restore 23 = .ok (.aload_n 0, 1) := dk_42 (dk_at dksX1_restore_0 23 rfl rfl)
theorem dX1_restore_24 : decode cX1_restore 24 = .ok (.getfield 247, 3) := dk_180 0 247 (dk_at dksX1_restore_1 0 rfl rfl)
theorem dX1_restore_27 : decode cX1_restore 27 = .ok (.invokevirtual 82, 3) := dk_182 0 82 (dk_at dksX1_restore_1 3 rfl rfl)
theorem dX1_restore_30 : decode cX1_restore 30 = .ok (.invokevirtual 250, 3) := dk_182 0 250 (dk_at dksX1_restore_1 6 rfl rfl)
theorem dX1_restore_33 : decode cX1_restore 33 = .ok (.ireturn, 1) := dk_172 (dk_at dksX1_restore_1 9 rfl rfl)
abbrev cX1_shade : ByteArray := prog_1_method_41_code
def yX1_shade : MethodName := ⟨RX1, "shade", "(II)I"⟩
def dkwX1_shade_0 : List UInt8 := [42, 180, 0, 16, 180, 0, 114, 27, 28, 184, 0, 121, 46, 172]
abbrev dktX1_shade_0 : List UInt8 := dkwX1_shade_0 ++ []
theorem dksX1_shade_0 : cX1_shade.data.toList.drop 0 = dktX1_shade_0 := by decide +kernel
theorem dX1_shade_0 : decode cX1_shade 0 = .ok (.aload_n 0, 1) := dk_42 (dk_at dksX1_shade_0 0 rfl rfl)
theorem dX1_shade_1 : decode cX1_shade 1 = .ok (.getfield 16, 3) := dk_180 0 16 (dk_at dksX1_shade_0 1 rfl rfl)
theorem dX1_shade_4 : decode cX1_shade 4 = .ok (.getfield 114, 3) := dk_180 0 114 (dk_at dksX1_shade_0 4 rfl rfl)
theorem dX1_shade_7 : decode cX1_shade 7 = .ok (.iload_n 1, 1) := dk_27 (dk_at dksX1_shade_0 7 rfl rfl)
theorem dX1_shade_8 : decode cX1_shade 8 = .ok (.iload_n 2, 1) := dk_28 (dk_at dksX1_shade_0 8 rfl rfl)
theorem dX1_shade_9 : decode cX1_shade 9 = .ok (.invokestatic 121, 3) := dk_184 0 121 (dk_at dksX1_shade_0 9 rfl rfl)
theorem dX1_shade_12 : decode cX1_shade 12 = .ok (.iaload, 1) := dk_46 (dk_at dksX1_shade_0 12 rfl rfl)
theorem dX1_shade_13 : decode cX1_shade 13 = .ok (.ireturn, 1) := dk_172 (dk_at dksX1_shade_0 13 rfl rfl)
abbrev cX1_part : ByteArray := prog_1_method_44_code
def yX1_part : MethodName := ⟨RX1, "part", "(II)I"⟩
def dkwX1_part_0 : List UInt8 := [27, 28, 184, 0, 121, 62, 42, 182, 0, 140, 29, 46, 172]
abbrev dktX1_part_0 : List UInt8 := dkwX1_part_0 ++ []
theorem dksX1_part_0 : cX1_part.data.toList.drop 0 = dktX1_part_0 := by decide +kernel
theorem dX1_part_0 : decode cX1_part 0 = .ok (.iload_n 1, 1) := dk_27 (dk_at dksX1_part_0 0 rfl rfl)
theorem dX1_part_1 : decode cX1_part 1 = .ok (.iload_n 2, 1) := dk_28 (dk_at dksX1_part_0 1 rfl rfl)
theorem dX1_part_2 : decode cX1_part 2 = .ok (.invokestatic 121, 3) := dk_184 0 121 (dk_at dksX1_part_0 2 rfl rfl)
theorem dX1_part_5 : decode cX1_part 5 = .ok (.istore_n 3, 1) := dk_62 (dk_at dksX1_part_0 5 rfl rfl)
theorem dX1_part_6 : decode cX1_part 6 = .ok (.aload_n 0, 1) := dk_42 (dk_at dksX1_part_0 6 rfl rfl)
theorem dX1_part_7 : decode cX1_part 7 = .ok (.invokevirtual 140, 3) := dk_182 0 140 (dk_at dksX1_part_0 7 rfl rfl)
theorem dX1_part_10 : decode cX1_part 10 = .ok (.iload_n 3, 1) := dk_29 (dk_at dksX1_part_0 10 rfl rfl)
theorem dX1_part_11 : decode cX1_part 11 = .ok (.iaload, 1) := dk_46 (dk_at dksX1_part_0 11 rfl rfl)
theorem dX1_part_12 : decode cX1_part 12 = .ok (.ireturn, 1) := dk_172 (dk_at dksX1_part_0 12 rfl rfl)
abbrev cX1_bandOf : ByteArray := prog_1_method_45_code
def yX1_bandOf : MethodName := ⟨RX1, "bandOf", "(II)I"⟩
def dkwX1_bandOf_0 : List UInt8 := [42, 182, 0, 161, 180, 0, 165, 27, 28, 184, 0, 121, 46, 172]
abbrev dktX1_bandOf_0 : List UInt8 := dkwX1_bandOf_0 ++ []
theorem dksX1_bandOf_0 : cX1_bandOf.data.toList.drop 0 = dktX1_bandOf_0 := by decide +kernel
theorem dX1_bandOf_0 : decode cX1_bandOf 0 = .ok (.aload_n 0, 1) := dk_42 (dk_at dksX1_bandOf_0 0 rfl rfl)
theorem dX1_bandOf_1 : decode cX1_bandOf 1 = .ok (.invokevirtual 161, 3) := dk_182 0 161 (dk_at dksX1_bandOf_0 1 rfl rfl)
theorem dX1_bandOf_4 : decode cX1_bandOf 4 = .ok (.getfield 165, 3) := dk_180 0 165 (dk_at dksX1_bandOf_0 4 rfl rfl)
theorem dX1_bandOf_7 : decode cX1_bandOf 7 = .ok (.iload_n 1, 1) := dk_27 (dk_at dksX1_bandOf_0 7 rfl rfl)
theorem dX1_bandOf_8 : decode cX1_bandOf 8 = .ok (.iload_n 2, 1) := dk_28 (dk_at dksX1_bandOf_0 8 rfl rfl)
theorem dX1_bandOf_9 : decode cX1_bandOf 9 = .ok (.invokestatic 121, 3) := dk_184 0 121 (dk_at dksX1_bandOf_0 9 rfl rfl)
theorem dX1_bandOf_12 : decode cX1_bandOf 12 = .ok (.iaload, 1) := dk_46 (dk_at dksX1_bandOf_0 12 rfl rfl)
theorem dX1_bandOf_13 : decode cX1_bandOf 13 = .ok (.ireturn, 1) := dk_172 (dk_at dksX1_bandOf_0 13 rfl rfl)
abbrev cX1_placeOf : ByteArray := prog_1_method_46_code
def yX1_placeOf : MethodName := ⟨RX1, "placeOf", "(II)I"⟩
def dkwX1_placeOf_0 : List UInt8 := [42, 182, 0, 161, 180, 0, 253, 27, 28, 184, 0, 121, 46, 172]
abbrev dktX1_placeOf_0 : List UInt8 := dkwX1_placeOf_0 ++ []
theorem dksX1_placeOf_0 : cX1_placeOf.data.toList.drop 0 = dktX1_placeOf_0 := by decide +kernel
theorem dX1_placeOf_0 : decode cX1_placeOf 0 = .ok (.aload_n 0, 1) := dk_42 (dk_at dksX1_placeOf_0 0 rfl rfl)
theorem dX1_placeOf_1 : decode cX1_placeOf 1 = .ok (.invokevirtual 161, 3) := dk_182 0 161 (dk_at dksX1_placeOf_0 1 rfl rfl)
theorem dX1_placeOf_4 : decode cX1_placeOf 4 = .ok (.getfield 253, 3) := dk_180 0 253 (dk_at dksX1_placeOf_0 4 rfl rfl)
theorem dX1_placeOf_7 : decode cX1_placeOf 7 = .ok (.iload_n 1, 1) := dk_27 (dk_at dksX1_placeOf_0 7 rfl rfl)
theorem dX1_placeOf_8 : decode cX1_placeOf 8 = .ok (.iload_n 2, 1) := dk_28 (dk_at dksX1_placeOf_0 8 rfl rfl)
theorem dX1_placeOf_9 : decode cX1_placeOf 9 = .ok (.invokestatic 121, 3) := dk_184 0 121 (dk_at dksX1_placeOf_0 9 rfl rfl)
theorem dX1_placeOf_12 : decode cX1_placeOf 12 = .ok (.iaload, 1) := dk_46 (dk_at dksX1_placeOf_0 12 rfl rfl)
theorem dX1_placeOf_13 : decode cX1_placeOf 13 = .ok (.ireturn, 1) := dk_172 (dk_at dksX1_placeOf_0 13 rfl rfl)
abbrev cX1_energy : ByteArray := prog_1_method_48_code
def yX1_energy : MethodName := ⟨RX1, "energy", "(I)I"⟩
def dkwX1_energy_0 : List UInt8 := [27, 3, 16, 9, 184, 0, 99, 184, 0, 107, 42, 182, 0, 140, 87, 42, 27, 182, 1, 0, 172]
abbrev dktX1_energy_0 : List UInt8 := dkwX1_energy_0 ++ []
theorem dksX1_energy_0 : cX1_energy.data.toList.drop 0 = dktX1_energy_0 := by decide +kernel
theorem dX1_energy_0 : decode cX1_energy 0 = .ok (.iload_n 1, 1) := dk_27 (dk_at dksX1_energy_0 0 rfl rfl)
theorem dX1_energy_1 : decode cX1_energy 1 = .ok (.iconst 0, 1) := dk_3 (dk_at dksX1_energy_0 1 rfl rfl)
theorem dX1_energy_2 : decode cX1_energy 2 = .ok (.bipush 9, 2) := dk_16 9 (dk_at dksX1_energy_0 2 rfl rfl)
theorem dX1_energy_4 : decode cX1_energy 4 = .ok (.invokestatic 99, 3) := dk_184 0 99 (dk_at dksX1_energy_0 4 rfl rfl)
theorem dX1_energy_7 : decode cX1_energy 7 = .ok (.invokestatic 107, 3) := dk_184 0 107 (dk_at dksX1_energy_0 7 rfl rfl)
theorem dX1_energy_10 : decode cX1_energy 10 = .ok (.aload_n 0, 1) := dk_42 (dk_at dksX1_energy_0 10 rfl rfl)
theorem dX1_energy_11 : decode cX1_energy 11 = .ok (.invokevirtual 140, 3) := dk_182 0 140 (dk_at dksX1_energy_0 11 rfl rfl)
theorem dX1_energy_14 : decode cX1_energy 14 = .ok (.pop, 1) := dk_87 (dk_at dksX1_energy_0 14 rfl rfl)
theorem dX1_energy_15 : decode cX1_energy 15 = .ok (.aload_n 0, 1) := dk_42 (dk_at dksX1_energy_0 15 rfl rfl)
theorem dX1_energy_16 : decode cX1_energy 16 = .ok (.iload_n 1, 1) := dk_27 (dk_at dksX1_energy_0 16 rfl rfl)
theorem dX1_energy_17 : decode cX1_energy 17 = .ok (.invokevirtual 256, 3) := dk_182 1 0 (dk_at dksX1_energy_0 17 rfl rfl)
theorem dX1_energy_20 : decode cX1_energy 20 = .ok (.ireturn, 1) := dk_172 (dk_at dksX1_energy_0 20 rfl rfl)
abbrev cX1_shadeBack : ByteArray := prog_1_method_49_code
def yX1_shadeBack : MethodName := ⟨RX1, "shadeBack", "(II)I"⟩
def dkwX1_shadeBack_1 : List UInt8 := [180, 0, 110, 182, 0, 150, 29, 46, 172]
abbrev dktX1_shadeBack_1 : List UInt8 := dkwX1_shadeBack_1 ++ []
def dkwX1_shadeBack_0 : List UInt8 := [27, 28, 184, 0, 121, 62, 42, 180, 0, 32, 42, 182, 0, 140, 42, 180, 0, 57, 42, 180, 0, 16]
abbrev dktX1_shadeBack_0 : List UInt8 := dkwX1_shadeBack_0 ++ dktX1_shadeBack_1
theorem dksX1_shadeBack_0 : cX1_shadeBack.data.toList.drop 0 = dktX1_shadeBack_0 := by decide +kernel
theorem dksX1_shadeBack_1 : cX1_shadeBack.data.toList.drop 22 = dktX1_shadeBack_1 := dk_seg dksX1_shadeBack_0 22 rfl rfl
theorem dX1_shadeBack_0 : decode cX1_shadeBack 0 = .ok (.iload_n 1, 1) := dk_27 (dk_at dksX1_shadeBack_0 0 rfl rfl)
theorem dX1_shadeBack_1 : decode cX1_shadeBack 1 = .ok (.iload_n 2, 1) := dk_28 (dk_at dksX1_shadeBack_0 1 rfl rfl)
theorem dX1_shadeBack_2 : decode cX1_shadeBack 2 = .ok (.invokestatic 121, 3) := dk_184 0 121 (dk_at dksX1_shadeBack_0 2 rfl rfl)
theorem dX1_shadeBack_5 : decode cX1_shadeBack 5 = .ok (.istore_n 3, 1) := dk_62 (dk_at dksX1_shadeBack_0 5 rfl rfl)
theorem dX1_shadeBack_6 : decode cX1_shadeBack 6 = .ok (.aload_n 0, 1) := dk_42 (dk_at dksX1_shadeBack_0 6 rfl rfl)
theorem dX1_shadeBack_7 : decode cX1_shadeBack 7 = .ok (.getfield 32, 3) := dk_180 0 32 (dk_at dksX1_shadeBack_0 7 rfl rfl)
theorem dX1_shadeBack_10 : decode cX1_shadeBack 10 = .ok (.aload_n 0, 1) := dk_42 (dk_at dksX1_shadeBack_0 10 rfl rfl)
theorem dX1_shadeBack_11 : decode cX1_shadeBack 11 = .ok (.invokevirtual 140, 3) := dk_182 0 140 (dk_at dksX1_shadeBack_0 11 rfl rfl)
theorem dX1_shadeBack_14 : decode cX1_shadeBack 14 = .ok (.aload_n 0, 1) := dk_42 (dk_at dksX1_shadeBack_0 14 rfl rfl)
theorem dX1_shadeBack_15 : decode cX1_shadeBack 15 = .ok (.getfield 57, 3) := dk_180 0 57 (dk_at dksX1_shadeBack_0 15 rfl rfl)
theorem dX1_shadeBack_18 : decode cX1_shadeBack 18 = .ok (.aload_n 0, 1) := dk_42 (dk_at dksX1_shadeBack_0 18 rfl rfl)
theorem dX1_shadeBack_19 : decode cX1_shadeBack 19 = .ok (.getfield 16, 3) := dk_180 0 16 (dk_at dksX1_shadeBack_0 19 rfl rfl)
theorem dX1_shadeBack_22 : decode cX1_shadeBack 22 = .ok (.getfield 110, 3) := dk_180 0 110 (dk_at dksX1_shadeBack_1 0 rfl rfl)
theorem dX1_shadeBack_25 : decode cX1_shadeBack 25 = .ok (.invokevirtual 150, 3) := dk_182 0 150 (dk_at dksX1_shadeBack_1 3 rfl rfl)
theorem dX1_shadeBack_28 : decode cX1_shadeBack 28 = .ok (.iload_n 3, 1) := dk_29 (dk_at dksX1_shadeBack_1 6 rfl rfl)
theorem dX1_shadeBack_29 : decode cX1_shadeBack 29 = .ok (.iaload, 1) := dk_46 (dk_at dksX1_shadeBack_1 7 rfl rfl)
theorem dX1_shadeBack_30 : decode cX1_shadeBack 30 = .ok (.ireturn, 1) := dk_172 (dk_at dksX1_shadeBack_1 8 rfl rfl)
abbrev cX1_shadeByParts : ByteArray := prog_1_method_51_code
def yX1_shadeByParts : MethodName := ⟨RX1, "shadeByParts", "(II)I"⟩
def dkwX1_shadeByParts_0 : List UInt8 := [27, 28, 184, 0, 121, 87, 42, 182, 0, 140, 87, 42, 3, 27, 28, 182, 1, 3, 172]
abbrev dktX1_shadeByParts_0 : List UInt8 := dkwX1_shadeByParts_0 ++ []
theorem dksX1_shadeByParts_0 : cX1_shadeByParts.data.toList.drop 0 = dktX1_shadeByParts_0 := by decide +kernel
theorem dX1_shadeByParts_0 : decode cX1_shadeByParts 0 = .ok (.iload_n 1, 1) := dk_27 (dk_at dksX1_shadeByParts_0 0 rfl rfl)
theorem dX1_shadeByParts_1 : decode cX1_shadeByParts 1 = .ok (.iload_n 2, 1) := dk_28 (dk_at dksX1_shadeByParts_0 1 rfl rfl)
theorem dX1_shadeByParts_2 : decode cX1_shadeByParts 2 = .ok (.invokestatic 121, 3) := dk_184 0 121 (dk_at dksX1_shadeByParts_0 2 rfl rfl)
theorem dX1_shadeByParts_5 : decode cX1_shadeByParts 5 = .ok (.pop, 1) := dk_87 (dk_at dksX1_shadeByParts_0 5 rfl rfl)
theorem dX1_shadeByParts_6 : decode cX1_shadeByParts 6 = .ok (.aload_n 0, 1) := dk_42 (dk_at dksX1_shadeByParts_0 6 rfl rfl)
theorem dX1_shadeByParts_7 : decode cX1_shadeByParts 7 = .ok (.invokevirtual 140, 3) := dk_182 0 140 (dk_at dksX1_shadeByParts_0 7 rfl rfl)
theorem dX1_shadeByParts_10 : decode cX1_shadeByParts 10 = .ok (.pop, 1) := dk_87 (dk_at dksX1_shadeByParts_0 10 rfl rfl)
theorem dX1_shadeByParts_11 : decode cX1_shadeByParts 11 = .ok (.aload_n 0, 1) := dk_42 (dk_at dksX1_shadeByParts_0 11 rfl rfl)
theorem dX1_shadeByParts_12 : decode cX1_shadeByParts 12 = .ok (.iconst 0, 1) := dk_3 (dk_at dksX1_shadeByParts_0 12 rfl rfl)
theorem dX1_shadeByParts_13 : decode cX1_shadeByParts 13 = .ok (.iload_n 1, 1) := dk_27 (dk_at dksX1_shadeByParts_0 13 rfl rfl)
theorem dX1_shadeByParts_14 : decode cX1_shadeByParts 14 = .ok (.iload_n 2, 1) := dk_28 (dk_at dksX1_shadeByParts_0 14 rfl rfl)
theorem dX1_shadeByParts_15 : decode cX1_shadeByParts 15 = .ok (.invokevirtual 259, 3) := dk_182 1 3 (dk_at dksX1_shadeByParts_0 15 rfl rfl)
theorem dX1_shadeByParts_18 : decode cX1_shadeByParts 18 = .ok (.ireturn, 1) := dk_172 (dk_at dksX1_shadeByParts_0 18 rfl rfl)
abbrev cX1_crumbs : ByteArray := prog_1_method_52_code
def yX1_crumbs : MethodName := ⟨RX1, "crumbs", "(I)I"⟩
def dkwX1_crumbs_0 : List UInt8 := [27, 184, 0, 124, 42, 27, 182, 0, 183, 172]
abbrev dktX1_crumbs_0 : List UInt8 := dkwX1_crumbs_0 ++ []
theorem dksX1_crumbs_0 : cX1_crumbs.data.toList.drop 0 = dktX1_crumbs_0 := by decide +kernel
theorem dX1_crumbs_0 : decode cX1_crumbs 0 = .ok (.iload_n 1, 1) := dk_27 (dk_at dksX1_crumbs_0 0 rfl rfl)
theorem dX1_crumbs_1 : decode cX1_crumbs 1 = .ok (.invokestatic 124, 3) := dk_184 0 124 (dk_at dksX1_crumbs_0 1 rfl rfl)
theorem dX1_crumbs_4 : decode cX1_crumbs 4 = .ok (.aload_n 0, 1) := dk_42 (dk_at dksX1_crumbs_0 4 rfl rfl)
theorem dX1_crumbs_5 : decode cX1_crumbs 5 = .ok (.iload_n 1, 1) := dk_27 (dk_at dksX1_crumbs_0 5 rfl rfl)
theorem dX1_crumbs_6 : decode cX1_crumbs 6 = .ok (.invokevirtual 183, 3) := dk_182 0 183 (dk_at dksX1_crumbs_0 6 rfl rfl)
theorem dX1_crumbs_9 : decode cX1_crumbs 9 = .ok (.ireturn, 1) := dk_172 (dk_at dksX1_crumbs_0 9 rfl rfl)
abbrev cX1_cost : ByteArray := prog_1_method_55_code
def yX1_cost : MethodName := ⟨RX1, "cost", "(I)I"⟩
def dkwX1_cost_0 : List UInt8 := [27, 184, 0, 124, 42, 27, 182, 1, 12, 172]
abbrev dktX1_cost_0 : List UInt8 := dkwX1_cost_0 ++ []
theorem dksX1_cost_0 : cX1_cost.data.toList.drop 0 = dktX1_cost_0 := by decide +kernel
theorem dX1_cost_0 : decode cX1_cost 0 = .ok (.iload_n 1, 1) := dk_27 (dk_at dksX1_cost_0 0 rfl rfl)
theorem dX1_cost_1 : decode cX1_cost 1 = .ok (.invokestatic 124, 3) := dk_184 0 124 (dk_at dksX1_cost_0 1 rfl rfl)
theorem dX1_cost_4 : decode cX1_cost 4 = .ok (.aload_n 0, 1) := dk_42 (dk_at dksX1_cost_0 4 rfl rfl)
theorem dX1_cost_5 : decode cX1_cost 5 = .ok (.iload_n 1, 1) := dk_27 (dk_at dksX1_cost_0 5 rfl rfl)
theorem dX1_cost_6 : decode cX1_cost 6 = .ok (.invokevirtual 268, 3) := dk_182 1 12 (dk_at dksX1_cost_0 6 rfl rfl)
theorem dX1_cost_9 : decode cX1_cost 9 = .ok (.ireturn, 1) := dk_172 (dk_at dksX1_cost_0 9 rfl rfl)
abbrev cX1_worst : ByteArray := prog_1_method_57_code
def yX1_worst : MethodName := ⟨RX1, "worst", "(I)I"⟩
def dkwX1_worst_0 : List UInt8 := [27, 184, 0, 124, 42, 27, 182, 1, 15, 172]
abbrev dktX1_worst_0 : List UInt8 := dkwX1_worst_0 ++ []
theorem dksX1_worst_0 : cX1_worst.data.toList.drop 0 = dktX1_worst_0 := by decide +kernel
theorem dX1_worst_0 : decode cX1_worst 0 = .ok (.iload_n 1, 1) := dk_27 (dk_at dksX1_worst_0 0 rfl rfl)
theorem dX1_worst_1 : decode cX1_worst 1 = .ok (.invokestatic 124, 3) := dk_184 0 124 (dk_at dksX1_worst_0 1 rfl rfl)
theorem dX1_worst_4 : decode cX1_worst 4 = .ok (.aload_n 0, 1) := dk_42 (dk_at dksX1_worst_0 4 rfl rfl)
theorem dX1_worst_5 : decode cX1_worst 5 = .ok (.iload_n 1, 1) := dk_27 (dk_at dksX1_worst_0 5 rfl rfl)
theorem dX1_worst_6 : decode cX1_worst 6 = .ok (.invokevirtual 271, 3) := dk_182 1 15 (dk_at dksX1_worst_0 6 rfl rfl)
theorem dX1_worst_9 : decode cX1_worst 9 = .ok (.ireturn, 1) := dk_172 (dk_at dksX1_worst_0 9 rfl rfl)
abbrev cX1_thresholdFor : ByteArray := prog_1_method_59_code
def yX1_thresholdFor : MethodName := ⟨RX1, "thresholdFor", "(I)I"⟩
def dkwX1_thresholdFor_0 : List UInt8 := [27, 3, 17, 63, 192, 184, 0, 99, 184, 0, 107, 42, 27, 182, 1, 18, 172]
abbrev dktX1_thresholdFor_0 : List UInt8 := dkwX1_thresholdFor_0 ++ []
theorem dksX1_thresholdFor_0 : cX1_thresholdFor.data.toList.drop 0 = dktX1_thresholdFor_0 := by decide +kernel
theorem dX1_thresholdFor_0 : decode cX1_thresholdFor 0 = .ok (.iload_n 1, 1) := dk_27 (dk_at dksX1_thresholdFor_0 0 rfl rfl)
theorem dX1_thresholdFor_1 : decode cX1_thresholdFor 1 = .ok (.iconst 0, 1) := dk_3 (dk_at dksX1_thresholdFor_0 1 rfl rfl)
theorem dX1_thresholdFor_2 : decode cX1_thresholdFor 2 = .ok (.sipush 16320, 3) := dk_17 63 192 (dk_at dksX1_thresholdFor_0 2 rfl rfl)
theorem dX1_thresholdFor_5 : decode cX1_thresholdFor 5 = .ok (.invokestatic 99, 3) := dk_184 0 99 (dk_at dksX1_thresholdFor_0 5 rfl rfl)
theorem dX1_thresholdFor_8 : decode cX1_thresholdFor 8 = .ok (.invokestatic 107, 3) := dk_184 0 107 (dk_at dksX1_thresholdFor_0 8 rfl rfl)
theorem dX1_thresholdFor_11 : decode cX1_thresholdFor 11 = .ok (.aload_n 0, 1) := dk_42 (dk_at dksX1_thresholdFor_0 11 rfl rfl)
theorem dX1_thresholdFor_12 : decode cX1_thresholdFor 12 = .ok (.iload_n 1, 1) := dk_27 (dk_at dksX1_thresholdFor_0 12 rfl rfl)
theorem dX1_thresholdFor_13 : decode cX1_thresholdFor 13 = .ok (.invokevirtual 274, 3) := dk_182 1 18 (dk_at dksX1_thresholdFor_0 13 rfl rfl)
theorem dX1_thresholdFor_16 : decode cX1_thresholdFor 16 = .ok (.ireturn, 1) := dk_172 (dk_at dksX1_thresholdFor_0 16 rfl rfl)
abbrev cX1_costOfPlanes : ByteArray := prog_1_method_61_code
def yX1_costOfPlanes : MethodName := ⟨RX1, "costOfPlanes", "(I)I"⟩
def dkwX1_costOfPlanes_0 : List UInt8 := [27, 3, 16, 7, 184, 0, 99, 184, 0, 107, 42, 27, 182, 1, 21, 172]
abbrev dktX1_costOfPlanes_0 : List UInt8 := dkwX1_costOfPlanes_0 ++ []
theorem dksX1_costOfPlanes_0 : cX1_costOfPlanes.data.toList.drop 0 = dktX1_costOfPlanes_0 := by decide +kernel
theorem dX1_costOfPlanes_0 : decode cX1_costOfPlanes 0 = .ok (.iload_n 1, 1) := dk_27 (dk_at dksX1_costOfPlanes_0 0 rfl rfl)
theorem dX1_costOfPlanes_1 : decode cX1_costOfPlanes 1 = .ok (.iconst 0, 1) := dk_3 (dk_at dksX1_costOfPlanes_0 1 rfl rfl)
theorem dX1_costOfPlanes_2 : decode cX1_costOfPlanes 2 = .ok (.bipush 7, 2) := dk_16 7 (dk_at dksX1_costOfPlanes_0 2 rfl rfl)
theorem dX1_costOfPlanes_4 : decode cX1_costOfPlanes 4 = .ok (.invokestatic 99, 3) := dk_184 0 99 (dk_at dksX1_costOfPlanes_0 4 rfl rfl)
theorem dX1_costOfPlanes_7 : decode cX1_costOfPlanes 7 = .ok (.invokestatic 107, 3) := dk_184 0 107 (dk_at dksX1_costOfPlanes_0 7 rfl rfl)
theorem dX1_costOfPlanes_10 : decode cX1_costOfPlanes 10 = .ok (.aload_n 0, 1) := dk_42 (dk_at dksX1_costOfPlanes_0 10 rfl rfl)
theorem dX1_costOfPlanes_11 : decode cX1_costOfPlanes 11 = .ok (.iload_n 1, 1) := dk_27 (dk_at dksX1_costOfPlanes_0 11 rfl rfl)
theorem dX1_costOfPlanes_12 : decode cX1_costOfPlanes 12 = .ok (.invokevirtual 277, 3) := dk_182 1 21 (dk_at dksX1_costOfPlanes_0 12 rfl rfl)
theorem dX1_costOfPlanes_15 : decode cX1_costOfPlanes 15 = .ok (.ireturn, 1) := dk_172 (dk_at dksX1_costOfPlanes_0 15 rfl rfl)
abbrev cX1_trees : ByteArray := prog_1_method_63_code
def yX1_trees : MethodName := ⟨RX1, "trees", "(I)I"⟩
def dkwX1_trees_0 : List UInt8 := [27, 184, 0, 124, 42, 27, 182, 1, 28, 182, 1, 32, 172]
abbrev dktX1_trees_0 : List UInt8 := dkwX1_trees_0 ++ []
theorem dksX1_trees_0 : cX1_trees.data.toList.drop 0 = dktX1_trees_0 := by decide +kernel
theorem dX1_trees_0 : decode cX1_trees 0 = .ok (.iload_n 1, 1) := dk_27 (dk_at dksX1_trees_0 0 rfl rfl)
theorem dX1_trees_1 : decode cX1_trees 1 = .ok (.invokestatic 124, 3) := dk_184 0 124 (dk_at dksX1_trees_0 1 rfl rfl)
theorem dX1_trees_4 : decode cX1_trees 4 = .ok (.aload_n 0, 1) := dk_42 (dk_at dksX1_trees_0 4 rfl rfl)
theorem dX1_trees_5 : decode cX1_trees 5 = .ok (.iload_n 1, 1) := dk_27 (dk_at dksX1_trees_0 5 rfl rfl)
theorem dX1_trees_6 : decode cX1_trees 6 = .ok (.invokevirtual 284, 3) := dk_182 1 28 (dk_at dksX1_trees_0 6 rfl rfl)
theorem dX1_trees_9 : decode cX1_trees 9 = .ok (.invokevirtual 288, 3) := dk_182 1 32 (dk_at dksX1_trees_0 9 rfl rfl)
theorem dX1_trees_12 : decode cX1_trees 12 = .ok (.ireturn, 1) := dk_172 (dk_at dksX1_trees_0 12 rfl rfl)
abbrev cX1_treesFromBelow : ByteArray := prog_1_method_64_code
def yX1_treesFromBelow : MethodName := ⟨RX1, "treesFromBelow", "(I)I"⟩
def dkwX1_treesFromBelow_0 : List UInt8 := [27, 184, 0, 124, 42, 27, 182, 1, 28, 182, 1, 35, 172]
abbrev dktX1_treesFromBelow_0 : List UInt8 := dkwX1_treesFromBelow_0 ++ []
theorem dksX1_treesFromBelow_0 : cX1_treesFromBelow.data.toList.drop 0 = dktX1_treesFromBelow_0 := by decide +kernel
theorem dX1_treesFromBelow_0 : decode cX1_treesFromBelow 0 = .ok (.iload_n 1, 1) := dk_27 (dk_at dksX1_treesFromBelow_0 0 rfl rfl)
theorem dX1_treesFromBelow_1 : decode cX1_treesFromBelow 1 = .ok (.invokestatic 124, 3) := dk_184 0 124 (dk_at dksX1_treesFromBelow_0 1 rfl rfl)
theorem dX1_treesFromBelow_4 : decode cX1_treesFromBelow 4 = .ok (.aload_n 0, 1) := dk_42 (dk_at dksX1_treesFromBelow_0 4 rfl rfl)
theorem dX1_treesFromBelow_5 : decode cX1_treesFromBelow 5 = .ok (.iload_n 1, 1) := dk_27 (dk_at dksX1_treesFromBelow_0 5 rfl rfl)
theorem dX1_treesFromBelow_6 : decode cX1_treesFromBelow 6 = .ok (.invokevirtual 284, 3) := dk_182 1 28 (dk_at dksX1_treesFromBelow_0 6 rfl rfl)
theorem dX1_treesFromBelow_9 : decode cX1_treesFromBelow 9 = .ok (.invokevirtual 291, 3) := dk_182 1 35 (dk_at dksX1_treesFromBelow_0 9 rfl rfl)
theorem dX1_treesFromBelow_12 : decode cX1_treesFromBelow 12 = .ok (.ireturn, 1) := dk_172 (dk_at dksX1_treesFromBelow_0 12 rfl rfl)
abbrev cX1_isTree : ByteArray := prog_1_method_65_code
def yX1_isTree : MethodName := ⟨RX1, "isTree", "(III)Z"⟩
def dkwX1_isTree_2 : List UInt8 := [167, 0, 4, 3, 172]
abbrev dktX1_isTree_2 : List UInt8 := dkwX1_isTree_2 ++ []
def dkwX1_isTree_1 : List UInt8 := [54, 5, 21, 5, 158, 0, 22, 42, 29, 182, 1, 28, 21, 4, 21, 5, 182, 1, 38, 153, 0, 7, 4]
abbrev dktX1_isTree_1 : List UInt8 := dkwX1_isTree_1 ++ dktX1_isTree_2
def dkwX1_isTree_0 : List UInt8 := [27, 28, 184, 0, 121, 54, 4, 29, 184, 0, 124, 21, 4, 42, 180, 0, 16, 180, 0, 110, 184, 0, 3]
abbrev dktX1_isTree_0 : List UInt8 := dkwX1_isTree_0 ++ dktX1_isTree_1
theorem dksX1_isTree_0 : cX1_isTree.data.toList.drop 0 = dktX1_isTree_0 := by decide +kernel
theorem dksX1_isTree_1 : cX1_isTree.data.toList.drop 23 = dktX1_isTree_1 := dk_seg dksX1_isTree_0 23 rfl rfl
theorem dksX1_isTree_2 : cX1_isTree.data.toList.drop 46 = dktX1_isTree_2 := dk_seg dksX1_isTree_1 23 rfl rfl
theorem dX1_isTree_0 : decode cX1_isTree 0 = .ok (.iload_n 1, 1) := dk_27 (dk_at dksX1_isTree_0 0 rfl rfl)
theorem dX1_isTree_1 : decode cX1_isTree 1 = .ok (.iload_n 2, 1) := dk_28 (dk_at dksX1_isTree_0 1 rfl rfl)
theorem dX1_isTree_2 : decode cX1_isTree 2 = .ok (.invokestatic 121, 3) := dk_184 0 121 (dk_at dksX1_isTree_0 2 rfl rfl)
theorem dX1_isTree_5 : decode cX1_isTree 5 = .ok (.istore 4, 2) := dk_54 4 (dk_at dksX1_isTree_0 5 rfl rfl)
theorem dX1_isTree_7 : decode cX1_isTree 7 = .ok (.iload_n 3, 1) := dk_29 (dk_at dksX1_isTree_0 7 rfl rfl)
theorem dX1_isTree_8 : decode cX1_isTree 8 = .ok (.invokestatic 124, 3) := dk_184 0 124 (dk_at dksX1_isTree_0 8 rfl rfl)
theorem dX1_isTree_11 : decode cX1_isTree 11 = .ok (.iload 4, 2) := dk_21 4 (dk_at dksX1_isTree_0 11 rfl rfl)
theorem dX1_isTree_13 : decode cX1_isTree 13 = .ok (.aload_n 0, 1) := dk_42 (dk_at dksX1_isTree_0 13 rfl rfl)
theorem dX1_isTree_14 : decode cX1_isTree 14 = .ok (.getfield 16, 3) := dk_180 0 16 (dk_at dksX1_isTree_0 14 rfl rfl)
theorem dX1_isTree_17 : decode cX1_isTree 17 = .ok (.getfield 110, 3) := dk_180 0 110 (dk_at dksX1_isTree_0 17 rfl rfl)
theorem dX1_isTree_20 : decode cX1_isTree 20 = .ok (.invokestatic 3, 3) := dk_184 0 3 (dk_at dksX1_isTree_0 20 rfl rfl)
theorem dX1_isTree_23 : decode cX1_isTree 23 = .ok (.istore 5, 2) := dk_54 5 (dk_at dksX1_isTree_1 0 rfl rfl)
theorem dX1_isTree_25 : decode cX1_isTree 25 = .ok (.iload 5, 2) := dk_21 5 (dk_at dksX1_isTree_1 2 rfl rfl)
theorem dX1_isTree_27 : decode cX1_isTree 27 = .ok (.ifCond .le 22, 3) := dk_158 0 22 (dk_at dksX1_isTree_1 4 rfl rfl)
theorem dX1_isTree_30 : decode cX1_isTree 30 = .ok (.aload_n 0, 1) := dk_42 (dk_at dksX1_isTree_1 7 rfl rfl)
theorem dX1_isTree_31 : decode cX1_isTree 31 = .ok (.iload_n 3, 1) := dk_29 (dk_at dksX1_isTree_1 8 rfl rfl)
theorem dX1_isTree_32 : decode cX1_isTree 32 = .ok (.invokevirtual 284, 3) := dk_182 1 28 (dk_at dksX1_isTree_1 9 rfl rfl)
theorem dX1_isTree_35 : decode cX1_isTree 35 = .ok (.iload 4, 2) := dk_21 4 (dk_at dksX1_isTree_1 12 rfl rfl)
theorem dX1_isTree_37 : decode cX1_isTree 37 = .ok (.iload 5, 2) := dk_21 5 (dk_at dksX1_isTree_1 14 rfl rfl)
theorem dX1_isTree_39 : decode cX1_isTree 39 = .ok (.invokevirtual 294, 3) := dk_182 1 38 (dk_at dksX1_isTree_1 16 rfl rfl)
theorem dX1_isTree_42 : decode cX1_isTree 42 = .ok (.ifCond .eq 7, 3) := dk_153 0 7 (dk_at dksX1_isTree_1 19 rfl rfl)
theorem dX1_isTree_45 : decode cX1_isTree 45 = .ok (.iconst 1, 1) := dk_4 (dk_at dksX1_isTree_1 22 rfl rfl)
theorem dX1_isTree_46 : decode cX1_isTree 46 = .ok (.goto 4, 3) := dk_167 0 4 (dk_at dksX1_isTree_2 0 rfl rfl)
theorem dX1_isTree_49 : decode cX1_isTree 49 = .ok (.iconst 0, 1) := dk_3 (dk_at dksX1_isTree_2 3 rfl rfl)
theorem dX1_isTree_50 : decode cX1_isTree 50 = .ok (.ireturn, 1) := dk_172 (dk_at dksX1_isTree_2 4 rfl rfl)
abbrev cX1_codeBit : ByteArray := prog_1_method_68_code
def yX1_codeBit : MethodName := ⟨RX1, "codeBit", "(I)I"⟩
def dkwX1_codeBit_1 : List UInt8 := [182, 1, 55, 153, 0, 7, 4, 167, 0, 4, 3, 172]
abbrev dktX1_codeBit_1 : List UInt8 := dkwX1_codeBit_1 ++ []
def dkwX1_codeBit_0 : List UInt8 := [42, 182, 1, 45, 77, 27, 3, 44, 180, 1, 49, 4, 100, 184, 0, 99, 184, 0, 103, 44, 180, 1, 51, 27]
abbrev dktX1_codeBit_0 : List UInt8 := dkwX1_codeBit_0 ++ dktX1_codeBit_1
theorem dksX1_codeBit_0 : cX1_codeBit.data.toList.drop 0 = dktX1_codeBit_0 := by decide +kernel
theorem dksX1_codeBit_1 : cX1_codeBit.data.toList.drop 24 = dktX1_codeBit_1 := dk_seg dksX1_codeBit_0 24 rfl rfl
theorem dX1_codeBit_0 : decode cX1_codeBit 0 = .ok (.aload_n 0, 1) := dk_42 (dk_at dksX1_codeBit_0 0 rfl rfl)
theorem dX1_codeBit_1 : decode cX1_codeBit 1 = .ok (.invokevirtual 301, 3) := dk_182 1 45 (dk_at dksX1_codeBit_0 1 rfl rfl)
theorem dX1_codeBit_4 : decode cX1_codeBit 4 = .ok (.astore_n 2, 1) := dk_77 (dk_at dksX1_codeBit_0 4 rfl rfl)
theorem dX1_codeBit_5 : decode cX1_codeBit 5 = .ok (.iload_n 1, 1) := dk_27 (dk_at dksX1_codeBit_0 5 rfl rfl)
theorem dX1_codeBit_6 : decode cX1_codeBit 6 = .ok (.iconst 0, 1) := dk_3 (dk_at dksX1_codeBit_0 6 rfl rfl)
theorem dX1_codeBit_7 : decode cX1_codeBit 7 = .ok (.aload_n 2, 1) := dk_44 (dk_at dksX1_codeBit_0 7 rfl rfl)
theorem dX1_codeBit_8 : decode cX1_codeBit 8 = .ok (.getfield 305, 3) := dk_180 1 49 (dk_at dksX1_codeBit_0 8 rfl rfl)
theorem dX1_codeBit_11 : decode cX1_codeBit 11 = .ok (.iconst 1, 1) := dk_4 (dk_at dksX1_codeBit_0 11 rfl rfl)
theorem dX1_codeBit_12 : decode cX1_codeBit 12 = .ok (.isub, 1) := dk_100 (dk_at dksX1_codeBit_0 12 rfl rfl)
theorem dX1_codeBit_13 : decode cX1_codeBit 13 = .ok (.invokestatic 99, 3) := dk_184 0 99 (dk_at dksX1_codeBit_0 13 rfl rfl)
theorem dX1_codeBit_16 : decode cX1_codeBit 16 = .ok (.invokestatic 103, 3) := dk_184 0 103 (dk_at dksX1_codeBit_0 16 rfl rfl)
theorem dX1_codeBit_19 : decode cX1_codeBit 19 = .ok (.aload_n 2, 1) := dk_44 (dk_at dksX1_codeBit_0 19 rfl rfl)
theorem dX1_codeBit_20 : decode cX1_codeBit 20 = .ok (.getfield 307, 3) := dk_180 1 51 (dk_at dksX1_codeBit_0 20 rfl rfl)
theorem dX1_codeBit_23 : decode cX1_codeBit 23 = .ok (.iload_n 1, 1) := dk_27 (dk_at dksX1_codeBit_0 23 rfl rfl)
theorem dX1_codeBit_24 : decode cX1_codeBit 24 = .ok (.invokevirtual 311, 3) := dk_182 1 55 (dk_at dksX1_codeBit_1 0 rfl rfl)
theorem dX1_codeBit_27 : decode cX1_codeBit 27 = .ok (.ifCond .eq 7, 3) := dk_153 0 7 (dk_at dksX1_codeBit_1 3 rfl rfl)
theorem dX1_codeBit_30 : decode cX1_codeBit 30 = .ok (.iconst 1, 1) := dk_4 (dk_at dksX1_codeBit_1 6 rfl rfl)
theorem dX1_codeBit_31 : decode cX1_codeBit 31 = .ok (.goto 4, 3) := dk_167 0 4 (dk_at dksX1_codeBit_1 7 rfl rfl)
theorem dX1_codeBit_34 : decode cX1_codeBit 34 = .ok (.iconst 0, 1) := dk_3 (dk_at dksX1_codeBit_1 10 rfl rfl)
theorem dX1_codeBit_35 : decode cX1_codeBit 35 = .ok (.ireturn, 1) := dk_172 (dk_at dksX1_codeBit_1 11 rfl rfl)
abbrev cX1_partByCode : ByteArray := prog_1_method_69_code
def yX1_partByCode : MethodName := ⟨RX1, "partByCode", "(I)I"⟩
def dkwX1_partByCode_0 : List UInt8 := [27, 3, 16, 63, 184, 0, 99, 184, 0, 103, 42, 182, 1, 45, 182, 1, 61, 27, 46, 172]
abbrev dktX1_partByCode_0 : List UInt8 := dkwX1_partByCode_0 ++ []
theorem dksX1_partByCode_0 : cX1_partByCode.data.toList.drop 0 = dktX1_partByCode_0 := by decide +kernel
theorem dX1_partByCode_0 : decode cX1_partByCode 0 = .ok (.iload_n 1, 1) := dk_27 (dk_at dksX1_partByCode_0 0 rfl rfl)
theorem dX1_partByCode_1 : decode cX1_partByCode 1 = .ok (.iconst 0, 1) := dk_3 (dk_at dksX1_partByCode_0 1 rfl rfl)
theorem dX1_partByCode_2 : decode cX1_partByCode 2 = .ok (.bipush 63, 2) := dk_16 63 (dk_at dksX1_partByCode_0 2 rfl rfl)
theorem dX1_partByCode_4 : decode cX1_partByCode 4 = .ok (.invokestatic 99, 3) := dk_184 0 99 (dk_at dksX1_partByCode_0 4 rfl rfl)
theorem dX1_partByCode_7 : decode cX1_partByCode 7 = .ok (.invokestatic 103, 3) := dk_184 0 103 (dk_at dksX1_partByCode_0 7 rfl rfl)
theorem dX1_partByCode_10 : decode cX1_partByCode 10 = .ok (.aload_n 0, 1) := dk_42 (dk_at dksX1_partByCode_0 10 rfl rfl)
theorem dX1_partByCode_11 : decode cX1_partByCode 11 = .ok (.invokevirtual 301, 3) := dk_182 1 45 (dk_at dksX1_partByCode_0 11 rfl rfl)
theorem dX1_partByCode_14 : decode cX1_partByCode 14 = .ok (.invokevirtual 317, 3) := dk_182 1 61 (dk_at dksX1_partByCode_0 14 rfl rfl)
theorem dX1_partByCode_17 : decode cX1_partByCode 17 = .ok (.iload_n 1, 1) := dk_27 (dk_at dksX1_partByCode_0 17 rfl rfl)
theorem dX1_partByCode_18 : decode cX1_partByCode 18 = .ok (.iaload, 1) := dk_46 (dk_at dksX1_partByCode_0 18 rfl rfl)
theorem dX1_partByCode_19 : decode cX1_partByCode 19 = .ok (.ireturn, 1) := dk_172 (dk_at dksX1_partByCode_0 19 rfl rfl)
abbrev cX1_partsChanged : ByteArray := prog_1_method_72_code
def yX1_partsChanged : MethodName := ⟨RX1, "partsChanged", "(III)I"⟩
def dkwX1_partsChanged_4 : List UInt8 := [160, 0, 7, 3, 167, 0, 4, 4, 96, 54, 5, 132, 6, 1, 167, 255, 219, 21, 5, 172]
abbrev dktX1_partsChanged_4 : List UInt8 := dkwX1_partsChanged_4 ++ []
def dkwX1_partsChanged_3 : List UInt8 := [21, 6, 16, 64, 162, 0, 36, 21, 5, 42, 180, 0, 50, 21, 6, 46, 42, 180, 0, 54, 21, 6, 46]
abbrev dktX1_partsChanged_3 : List UInt8 := dkwX1_partsChanged_3 ++ dktX1_partsChanged_4
def dkwX1_partsChanged_2 : List UInt8 := [180, 0, 57, 42, 180, 0, 54, 42, 180, 0, 16, 180, 0, 110, 182, 0, 117, 87, 3, 54, 5, 3, 54, 6]
abbrev dktX1_partsChanged_2 : List UInt8 := dkwX1_partsChanged_2 ++ dktX1_partsChanged_3
def dkwX1_partsChanged_1 : List UInt8 := [42, 180, 0, 57, 3, 16, 64, 184, 0, 144, 42, 180, 0, 57, 21, 4, 29, 79, 42, 180, 0, 32, 42]
abbrev dktX1_partsChanged_1 : List UInt8 := dkwX1_partsChanged_1 ++ dktX1_partsChanged_2
def dkwX1_partsChanged_0 : List UInt8 := [27, 28, 184, 0, 121, 54, 4, 29, 184, 0, 124, 42, 182, 0, 140, 87, 42, 180, 0, 16, 180, 0, 114, 3]
abbrev dktX1_partsChanged_0 : List UInt8 := dkwX1_partsChanged_0 ++ dktX1_partsChanged_1
theorem dksX1_partsChanged_0 : cX1_partsChanged.data.toList.drop 0 = dktX1_partsChanged_0 := by decide +kernel
theorem dksX1_partsChanged_1 : cX1_partsChanged.data.toList.drop 24 = dktX1_partsChanged_1 := dk_seg dksX1_partsChanged_0 24 rfl rfl
theorem dksX1_partsChanged_2 : cX1_partsChanged.data.toList.drop 47 = dktX1_partsChanged_2 := dk_seg dksX1_partsChanged_1 23 rfl rfl
theorem dksX1_partsChanged_3 : cX1_partsChanged.data.toList.drop 71 = dktX1_partsChanged_3 := dk_seg dksX1_partsChanged_2 24 rfl rfl
theorem dksX1_partsChanged_4 : cX1_partsChanged.data.toList.drop 94 = dktX1_partsChanged_4 := dk_seg dksX1_partsChanged_3 23 rfl rfl
theorem dX1_partsChanged_0 : decode cX1_partsChanged 0 = .ok (.iload_n 1, 1) := dk_27 (dk_at dksX1_partsChanged_0 0 rfl rfl)
theorem dX1_partsChanged_1 : decode cX1_partsChanged 1 = .ok (.iload_n 2, 1) := dk_28 (dk_at dksX1_partsChanged_0 1 rfl rfl)
theorem dX1_partsChanged_2 : decode cX1_partsChanged 2 = .ok (.invokestatic 121, 3) := dk_184 0 121 (dk_at dksX1_partsChanged_0 2 rfl rfl)
theorem dX1_partsChanged_5 : decode cX1_partsChanged 5 = .ok (.istore 4, 2) := dk_54 4 (dk_at dksX1_partsChanged_0 5 rfl rfl)
theorem dX1_partsChanged_7 : decode cX1_partsChanged 7 = .ok (.iload_n 3, 1) := dk_29 (dk_at dksX1_partsChanged_0 7 rfl rfl)
theorem dX1_partsChanged_8 : decode cX1_partsChanged 8 = .ok (.invokestatic 124, 3) := dk_184 0 124 (dk_at dksX1_partsChanged_0 8 rfl rfl)
theorem dX1_partsChanged_11 : decode cX1_partsChanged 11 = .ok (.aload_n 0, 1) := dk_42 (dk_at dksX1_partsChanged_0 11 rfl rfl)
theorem dX1_partsChanged_12 : decode cX1_partsChanged 12 = .ok (.invokevirtual 140, 3) := dk_182 0 140 (dk_at dksX1_partsChanged_0 12 rfl rfl)
theorem dX1_partsChanged_15 : decode cX1_partsChanged 15 = .ok (.pop, 1) := dk_87 (dk_at dksX1_partsChanged_0 15 rfl rfl)
theorem dX1_partsChanged_16 : decode cX1_partsChanged 16 = .ok (.aload_n 0, 1) := dk_42 (dk_at dksX1_partsChanged_0 16 rfl rfl)
theorem dX1_partsChanged_17 : decode cX1_partsChanged 17 = .ok (.getfield 16, 3) := dk_180 0 16 (dk_at dksX1_partsChanged_0 17 rfl rfl)
theorem dX1_partsChanged_20 : decode cX1_partsChanged 20 = .ok (.getfield 114, 3) := dk_180 0 114 (dk_at dksX1_partsChanged_0 20 rfl rfl)
theorem dX1_partsChanged_23 : decode cX1_partsChanged 23 = .ok (.iconst 0, 1) := dk_3 (dk_at dksX1_partsChanged_0 23 rfl rfl)
theorem dX1_partsChanged_24 : decode cX1_partsChanged 24 = .ok (.aload_n 0, 1) := dk_42 (dk_at dksX1_partsChanged_1 0 rfl rfl)
theorem dX1_partsChanged_25 : decode cX1_partsChanged 25 = .ok (.getfield 57, 3) := dk_180 0 57 (dk_at dksX1_partsChanged_1 1 rfl rfl)
theorem dX1_partsChanged_28 : decode cX1_partsChanged 28 = .ok (.iconst 0, 1) := dk_3 (dk_at dksX1_partsChanged_1 4 rfl rfl)
theorem dX1_partsChanged_29 : decode cX1_partsChanged 29 = .ok (.bipush 64, 2) := dk_16 64 (dk_at dksX1_partsChanged_1 5 rfl rfl)
theorem dX1_partsChanged_31 : decode cX1_partsChanged 31 = .ok (.invokestatic 144, 3) := dk_184 0 144 (dk_at dksX1_partsChanged_1 7 rfl rfl)
theorem dX1_partsChanged_34 : decode cX1_partsChanged 34 = .ok (.aload_n 0, 1) := dk_42 (dk_at dksX1_partsChanged_1 10 rfl rfl)
theorem dX1_partsChanged_35 : decode cX1_partsChanged 35 = .ok (.getfield 57, 3) := dk_180 0 57 (dk_at dksX1_partsChanged_1 11 rfl rfl)
theorem dX1_partsChanged_38 : decode cX1_partsChanged 38 = .ok (.iload 4, 2) := dk_21 4 (dk_at dksX1_partsChanged_1 14 rfl rfl)
theorem dX1_partsChanged_40 : decode cX1_partsChanged 40 = .ok (.iload_n 3, 1) := dk_29 (dk_at dksX1_partsChanged_1 16 rfl rfl)
theorem dX1_partsChanged_41 : decode cX1_partsChanged 41 = .ok (.iastore, 1) := dk_79 (dk_at dksX1_partsChanged_1 17 rfl rfl)
theorem dX1_partsChanged_42 : decode cX1_partsChanged 42 = .ok (.aload_n 0, 1) := dk_42 (dk_at dksX1_partsChanged_1 18 rfl rfl)
theorem dX1_partsChanged_43 : decode cX1_partsChanged 43 = .ok (.getfield 32, 3) := dk_180 0 32 (dk_at dksX1_partsChanged_1 19 rfl rfl)
theorem dX1_partsChanged_46 : decode cX1_partsChanged 46 = .ok (.aload_n 0, 1) := dk_42 (dk_at dksX1_partsChanged_1 22 rfl rfl)
theorem dX1_partsChanged_47 : decode cX1_partsChanged 47 = .ok (.getfield 57, 3) := dk_180 0 57 (dk_at dksX1_partsChanged_2 0 rfl rfl)
theorem dX1_partsChanged_50 : decode cX1_partsChanged 50 = .ok (.aload_n 0, 1) := dk_42 (dk_at dksX1_partsChanged_2 3 rfl rfl)
theorem dX1_partsChanged_51 : decode cX1_partsChanged 51 = .ok (.getfield 54, 3) := dk_180 0 54 (dk_at dksX1_partsChanged_2 4 rfl rfl)
theorem dX1_partsChanged_54 : decode cX1_partsChanged 54 = .ok (.aload_n 0, 1) := dk_42 (dk_at dksX1_partsChanged_2 7 rfl rfl)
theorem dX1_partsChanged_55 : decode cX1_partsChanged 55 = .ok (.getfield 16, 3) := dk_180 0 16 (dk_at dksX1_partsChanged_2 8 rfl rfl)
theorem dX1_partsChanged_58 : decode cX1_partsChanged 58 = .ok (.getfield 110, 3) := dk_180 0 110 (dk_at dksX1_partsChanged_2 11 rfl rfl)
theorem dX1_partsChanged_61 : decode cX1_partsChanged 61 = .ok (.invokevirtual 117, 3) := dk_182 0 117 (dk_at dksX1_partsChanged_2 14 rfl rfl)
theorem dX1_partsChanged_64 : decode cX1_partsChanged 64 = .ok (.pop, 1) := dk_87 (dk_at dksX1_partsChanged_2 17 rfl rfl)
theorem dX1_partsChanged_65 : decode cX1_partsChanged 65 = .ok (.iconst 0, 1) := dk_3 (dk_at dksX1_partsChanged_2 18 rfl rfl)
theorem dX1_partsChanged_66 : decode cX1_partsChanged 66 = .ok (.istore 5, 2) := dk_54 5 (dk_at dksX1_partsChanged_2 19 rfl rfl)
theorem dX1_partsChanged_68 : decode cX1_partsChanged 68 = .ok (.iconst 0, 1) := dk_3 (dk_at dksX1_partsChanged_2 21 rfl rfl)
theorem dX1_partsChanged_69 : decode cX1_partsChanged 69 = .ok (.istore 6, 2) := dk_54 6 (dk_at dksX1_partsChanged_2 22 rfl rfl)
theorem dX1_partsChanged_71 : decode cX1_partsChanged 71 = .ok (.iload 6, 2) := dk_21 6 (dk_at dksX1_partsChanged_3 0 rfl rfl)
theorem dX1_partsChanged_73 : decode cX1_partsChanged 73 = .ok (.bipush 64, 2) := dk_16 64 (dk_at dksX1_partsChanged_3 2 rfl rfl)
theorem dX1_partsChanged_75 : decode cX1_partsChanged 75 = .ok (.if_icmp .ge 36, 3) := dk_162 0 36 (dk_at dksX1_partsChanged_3 4 rfl rfl)
theorem dX1_partsChanged_78 : decode cX1_partsChanged 78 = .ok (.iload 5, 2) := dk_21 5 (dk_at dksX1_partsChanged_3 7 rfl rfl)
theorem dX1_partsChanged_80 : decode cX1_partsChanged 80 = .ok (.aload_n 0, 1) := dk_42 (dk_at dksX1_partsChanged_3 9 rfl rfl)
theorem dX1_partsChanged_81 : decode cX1_partsChanged 81 = .ok (.getfield 50, 3) := dk_180 0 50 (dk_at dksX1_partsChanged_3 10 rfl rfl)
theorem dX1_partsChanged_84 : decode cX1_partsChanged 84 = .ok (.iload 6, 2) := dk_21 6 (dk_at dksX1_partsChanged_3 13 rfl rfl)
theorem dX1_partsChanged_86 : decode cX1_partsChanged 86 = .ok (.iaload, 1) := dk_46 (dk_at dksX1_partsChanged_3 15 rfl rfl)
theorem dX1_partsChanged_87 : decode cX1_partsChanged 87 = .ok (.aload_n 0, 1) := dk_42 (dk_at dksX1_partsChanged_3 16 rfl rfl)
theorem dX1_partsChanged_88 : decode cX1_partsChanged 88 = .ok (.getfield 54, 3) := dk_180 0 54 (dk_at dksX1_partsChanged_3 17 rfl rfl)
theorem dX1_partsChanged_91 : decode cX1_partsChanged 91 = .ok (.iload 6, 2) := dk_21 6 (dk_at dksX1_partsChanged_3 20 rfl rfl)
theorem dX1_partsChanged_93 : decode cX1_partsChanged 93 = .ok (.iaload, 1) := dk_46 (dk_at dksX1_partsChanged_3 22 rfl rfl)
theorem dX1_partsChanged_94 : decode cX1_partsChanged 94 = .ok (.if_icmp .ne 7, 3) := dk_160 0 7 (dk_at dksX1_partsChanged_4 0 rfl rfl)
theorem dX1_partsChanged_97 : decode cX1_partsChanged 97 = .ok (.iconst 0, 1) := dk_3 (dk_at dksX1_partsChanged_4 3 rfl rfl)
theorem dX1_partsChanged_98 : decode cX1_partsChanged 98 = .ok (.goto 4, 3) := dk_167 0 4 (dk_at dksX1_partsChanged_4 4 rfl rfl)
theorem dX1_partsChanged_101 : decode cX1_partsChanged 101 = .ok (.iconst 1, 1) := dk_4 (dk_at dksX1_partsChanged_4 7 rfl rfl)
theorem dX1_partsChanged_102 : decode cX1_partsChanged 102 = .ok (.iadd, 1) := dk_96 (dk_at dksX1_partsChanged_4 8 rfl rfl)
theorem dX1_partsChanged_103 : decode cX1_partsChanged 103 = .ok (.istore 5, 2) := dk_54 5 (dk_at dksX1_partsChanged_4 9 rfl rfl)
theorem dX1_partsChanged_105 : decode cX1_partsChanged 105 = .ok (.iinc 6 1, 3) := dk_132 6 1 (dk_at dksX1_partsChanged_4 11 rfl rfl)
theorem dX1_partsChanged_108 : decode cX1_partsChanged 108 = .ok (.goto (-37), 3) := dk_167 255 219 (dk_at dksX1_partsChanged_4 14 rfl rfl)
theorem dX1_partsChanged_111 : decode cX1_partsChanged 111 = .ok (.iload 5, 2) := dk_21 5 (dk_at dksX1_partsChanged_4 17 rfl rfl)
theorem dX1_partsChanged_113 : decode cX1_partsChanged 113 = .ok (.ireturn, 1) := dk_172 (dk_at dksX1_partsChanged_4 19 rfl rfl)
abbrev cX1_codeLengthWith : ByteArray := prog_1_method_74_code
def yX1_codeLengthWith : MethodName := ⟨RX1, "codeLengthWith", "(I)I"⟩
def dkwX1_codeLengthWith_0 : List UInt8 := [27, 184, 0, 189, 42, 27, 182, 1, 71, 172]
abbrev dktX1_codeLengthWith_0 : List UInt8 := dkwX1_codeLengthWith_0 ++ []
theorem dksX1_codeLengthWith_0 : cX1_codeLengthWith.data.toList.drop 0 = dktX1_codeLengthWith_0 := by decide +kernel
theorem dX1_codeLengthWith_0 : decode cX1_codeLengthWith 0 = .ok (.iload_n 1, 1) := dk_27 (dk_at dksX1_codeLengthWith_0 0 rfl rfl)
theorem dX1_codeLengthWith_1 : decode cX1_codeLengthWith 1 = .ok (.invokestatic 189, 3) := dk_184 0 189 (dk_at dksX1_codeLengthWith_0 1 rfl rfl)
theorem dX1_codeLengthWith_4 : decode cX1_codeLengthWith 4 = .ok (.aload_n 0, 1) := dk_42 (dk_at dksX1_codeLengthWith_0 4 rfl rfl)
theorem dX1_codeLengthWith_5 : decode cX1_codeLengthWith 5 = .ok (.iload_n 1, 1) := dk_27 (dk_at dksX1_codeLengthWith_0 5 rfl rfl)
theorem dX1_codeLengthWith_6 : decode cX1_codeLengthWith 6 = .ok (.invokevirtual 327, 3) := dk_182 1 71 (dk_at dksX1_codeLengthWith_0 6 rfl rfl)
theorem dX1_codeLengthWith_9 : decode cX1_codeLengthWith 9 = .ok (.ireturn, 1) := dk_172 (dk_at dksX1_codeLengthWith_0 9 rfl rfl)
abbrev cX1_codeLengthWithout : ByteArray := prog_1_method_76_code
def yX1_codeLengthWithout : MethodName := ⟨RX1, "codeLengthWithout", "(I)I"⟩
def dkwX1_codeLengthWithout_0 : List UInt8 := [27, 184, 0, 124, 42, 27, 182, 1, 74, 172]
abbrev dktX1_codeLengthWithout_0 : List UInt8 := dkwX1_codeLengthWithout_0 ++ []
theorem dksX1_codeLengthWithout_0 : cX1_codeLengthWithout.data.toList.drop 0 = dktX1_codeLengthWithout_0 := by decide +kernel
theorem dX1_codeLengthWithout_0 : decode cX1_codeLengthWithout 0 = .ok (.iload_n 1, 1) := dk_27 (dk_at dksX1_codeLengthWithout_0 0 rfl rfl)
theorem dX1_codeLengthWithout_1 : decode cX1_codeLengthWithout 1 = .ok (.invokestatic 124, 3) := dk_184 0 124 (dk_at dksX1_codeLengthWithout_0 1 rfl rfl)
theorem dX1_codeLengthWithout_4 : decode cX1_codeLengthWithout 4 = .ok (.aload_n 0, 1) := dk_42 (dk_at dksX1_codeLengthWithout_0 4 rfl rfl)
theorem dX1_codeLengthWithout_5 : decode cX1_codeLengthWithout 5 = .ok (.iload_n 1, 1) := dk_27 (dk_at dksX1_codeLengthWithout_0 5 rfl rfl)
theorem dX1_codeLengthWithout_6 : decode cX1_codeLengthWithout 6 = .ok (.invokevirtual 330, 3) := dk_182 1 74 (dk_at dksX1_codeLengthWithout_0 6 rfl rfl)
theorem dX1_codeLengthWithout_9 : decode cX1_codeLengthWithout 9 = .ok (.ireturn, 1) := dk_172 (dk_at dksX1_codeLengthWithout_0 9 rfl rfl)
theorem q106 : (Jvm.Cond.initialized "CrumbPictures") ∈ lw_all := lw_g (lw_at lw_m1 1 rfl) rfl
theorem q145 : (Jvm.Cond.instantiable "CrumbPictures" (12 : Nat)) ∈ lw_all := lw_g (lw_at lw_m1 40 rfl) rfl
theorem q147 : (Jvm.Cond.instanceMethod ({ cls := "CrumbPictures", name := "<init>", desc := "()V" } : Jvm.MethodName)) ∈ lw_all := lw_g (lw_at lw_m1 42 rfl) rfl
theorem q148 : (Jvm.Cond.code ({ cls := "CrumbPictures", name := "<init>", desc := "()V" } : Jvm.MethodName) prog_1_method_6_code (1 : Nat) (Option.none : Option Jvm.ClassFile.FieldType)) ∈ lw_all := lw_g (lw_at lw_m1 43 rfl) rfl
theorem q149 : (Jvm.Cond.methodLink "CrumbPictures" (7 : Nat) ({ cls := "java/lang/Object", name := "<init>", desc := "()V" } : Jvm.MethodName)) ∈ lw_all := lw_g (lw_at lw_m1 44 rfl) rfl
theorem q152 : (Jvm.Cond.classLink "CrumbPictures" (13 : Nat) "CrumbPictures$Sheet") ∈ lw_all := lw_g (lw_at lw_m1 47 rfl) rfl
theorem q154 : (Jvm.Cond.methodLinkNest "CrumbPictures" (15 : Nat) ({ cls := "CrumbPictures$Sheet", name := "<init>", desc := "()V" } : Jvm.MethodName) "CrumbPictures") ∈ lw_tbl := lw_at lw_m1 49 rfl
theorem q159 : (Jvm.Cond.fieldLinkNest "CrumbPictures" (114 : Nat) "CrumbPictures$Sheet" "shades" "[I" "CrumbPictures") ∈ lw_tbl := lw_at lw_m1 54 rfl
theorem q161 : (Jvm.Cond.fieldLinkNest "CrumbPictures" (110 : Nat) "CrumbPictures$Sheet" "levels" "I" "CrumbPictures") ∈ lw_tbl := lw_at lw_m1 56 rfl
theorem q163 : (Jvm.Cond.fieldLinkNest "CrumbPictures" (238 : Nat) "CrumbPictures$Sheet" "stop" "I" "CrumbPictures") ∈ lw_tbl := lw_at lw_m1 58 rfl
theorem q165 : (Jvm.Cond.fieldLinkNest "CrumbPictures" (241 : Nat) "CrumbPictures$Sheet" "why" "I" "CrumbPictures") ∈ lw_tbl := lw_at lw_m1 60 rfl
theorem q176 : (Jvm.Cond.classLink "CrumbPictures" (20 : Nat) "CrumbPictures$Order") ∈ lw_all := lw_g (lw_at lw_m1 71 rfl) rfl
theorem q179 : (Jvm.Cond.methodLink "CrumbPictures" (22 : Nat) ({ cls := "CrumbPictures$Order", name := "<init>", desc := "(I)V" } : Jvm.MethodName)) ∈ lw_all := lw_g (lw_at lw_m1 74 rfl) rfl
theorem q198 : (Jvm.Cond.static ({ cls := "CrumbPictures", name := "bandTold", desc := "(II)I" } : Jvm.MethodName)) ∈ lw_all := lw_g (lw_at lw_m1 93 rfl) rfl
theorem q199 : (Jvm.Cond.code ({ cls := "CrumbPictures", name := "bandTold", desc := "(II)I" } : Jvm.MethodName) prog_1_method_5_code (4 : Nat) (Option.some Jvm.ClassFile.FieldType.int)) ∈ lw_all := lw_g (lw_at lw_m1 94 rfl) rfl
theorem q200 : (Jvm.Cond.methodLink "CrumbPictures" (3 : Nat) ({ cls := "CrumbPictures", name := "levelOf", desc := "(II)I" } : Jvm.MethodName)) ∈ lw_all := lw_g (lw_at lw_m1 95 rfl) rfl
theorem q201 : (Jvm.Cond.static ({ cls := "CrumbPictures", name := "levelOf", desc := "(II)I" } : Jvm.MethodName)) ∈ lw_all := lw_g (lw_at lw_m1 96 rfl) rfl
theorem q202 : (Jvm.Cond.code ({ cls := "CrumbPictures", name := "levelOf", desc := "(II)I" } : Jvm.MethodName) prog_1_method_4_code (6 : Nat) (Option.some Jvm.ClassFile.FieldType.int)) ∈ lw_all := lw_g (lw_at lw_m1 97 rfl) rfl
theorem q347 : (Jvm.Cond.fieldLinkNest "CrumbPictures" (253 : Nat) "CrumbPictures$Order" "places" "[I" "CrumbPictures") ∈ lw_tbl := lw_at lw_m2 2 rfl
theorem q349 : (Jvm.Cond.fieldLinkNest "CrumbPictures" (165 : Nat) "CrumbPictures$Order" "bands" "[I" "CrumbPictures") ∈ lw_tbl := lw_at lw_m2 4 rfl
theorem q360 : (Jvm.Cond.classLink "CrumbPictures" (29 : Nat) "CrumbPictures$Splitter") ∈ lw_all := lw_g (lw_at lw_m2 15 rfl) rfl
theorem q362 : (Jvm.Cond.methodLinkNest "CrumbPictures" (31 : Nat) ({ cls := "CrumbPictures$Splitter", name := "<init>", desc := "()V" } : Jvm.MethodName) "CrumbPictures") ∈ lw_tbl := lw_at lw_m2 17 rfl
theorem q370 : (Jvm.Cond.classLink "CrumbPictures" (36 : Nat) "CrumbPictures$Trees") ∈ lw_all := lw_g (lw_at lw_m2 25 rfl) rfl
theorem q372 : (Jvm.Cond.methodLinkNest "CrumbPictures" (38 : Nat) ({ cls := "CrumbPictures$Trees", name := "<init>", desc := "()V" } : Jvm.MethodName) "CrumbPictures") ∈ lw_tbl := lw_at lw_m2 27 rfl
theorem q390 : (Jvm.Cond.classLink "CrumbPictures" (43 : Nat) "CrumbPictures$Code") ∈ lw_all := lw_g (lw_at lw_m2 45 rfl) rfl
theorem q392 : (Jvm.Cond.methodLinkNest "CrumbPictures" (45 : Nat) ({ cls := "CrumbPictures$Code", name := "<init>", desc := "()V" } : Jvm.MethodName) "CrumbPictures") ∈ lw_tbl := lw_at lw_m2 47 rfl
theorem q421 : (Jvm.Cond.fieldLinkNest "CrumbPictures" (307 : Nat) "CrumbPictures$Code" "bits" "Ljava/util/BitSet;" "CrumbPictures") ∈ lw_tbl := lw_at lw_m2 76 rfl
theorem q424 : (Jvm.Cond.fieldLinkNest "CrumbPictures" (305 : Nat) "CrumbPictures$Code" "length" "I" "CrumbPictures") ∈ lw_tbl := lw_at lw_m2 79 rfl
theorem q435 : (Jvm.Cond.classLink "CrumbPictures" (60 : Nat) "java/util/ArrayList") ∈ lw_all := lw_g (lw_at lw_m2 90 rfl) rfl
theorem q437 : (Jvm.Cond.methodLink "CrumbPictures" (62 : Nat) ({ cls := "java/util/ArrayList", name := "<init>", desc := "()V" } : Jvm.MethodName)) ∈ lw_all := lw_g (lw_at lw_m2 92 rfl) rfl
theorem q461 : (Jvm.Cond.classLink "CrumbPictures" (67 : Nat) "java/lang/StringBuilder") ∈ lw_all := lw_g (lw_at lw_m2 116 rfl) rfl
theorem q463 : (Jvm.Cond.methodLink "CrumbPictures" (69 : Nat) ({ cls := "java/lang/StringBuilder", name := "<init>", desc := "(I)V" } : Jvm.MethodName)) ∈ lw_all := lw_g (lw_at lw_m2 118 rfl) rfl
theorem q494 : (Jvm.Cond.fieldLink "CrumbPictures" (16 : Nat) "CrumbPictures" "now" "LCrumbPictures$Sheet;") ∈ lw_all := lw_g (lw_at lw_m2 149 rfl) rfl
theorem q495 : (Jvm.Cond.fieldLink "CrumbPictures" (25 : Nat) "CrumbPictures" "orders" "[LCrumbPictures$Order;") ∈ lw_all := lw_g (lw_at lw_m2 150 rfl) rfl
theorem q496 : (Jvm.Cond.fieldLink "CrumbPictures" (32 : Nat) "CrumbPictures" "splitter" "LCrumbPictures$Splitter;") ∈ lw_all := lw_g (lw_at lw_m2 151 rfl) rfl
theorem q497 : (Jvm.Cond.fieldLink "CrumbPictures" (39 : Nat) "CrumbPictures" "trees" "LCrumbPictures$Trees;") ∈ lw_all := lw_g (lw_at lw_m2 152 rfl) rfl
theorem q498 : (Jvm.Cond.fieldLink "CrumbPictures" (46 : Nat) "CrumbPictures" "code" "LCrumbPictures$Code;") ∈ lw_all := lw_g (lw_at lw_m2 153 rfl) rfl
theorem q499 : (Jvm.Cond.fieldLink "CrumbPictures" (50 : Nat) "CrumbPictures" "parts" "[I") ∈ lw_all := lw_g (lw_at lw_m2 154 rfl) rfl
theorem q500 : (Jvm.Cond.fieldLink "CrumbPictures" (54 : Nat) "CrumbPictures" "others" "[I") ∈ lw_all := lw_g (lw_at lw_m2 155 rfl) rfl
theorem q501 : (Jvm.Cond.fieldLink "CrumbPictures" (57 : Nat) "CrumbPictures" "room" "[I") ∈ lw_all := lw_g (lw_at lw_m2 156 rfl) rfl
theorem q502 : (Jvm.Cond.fieldLink "CrumbPictures" (63 : Nat) "CrumbPictures" "saved" "Ljava/util/ArrayList;") ∈ lw_all := lw_g (lw_at lw_m2 157 rfl) rfl
theorem q503 : (Jvm.Cond.fieldLink "CrumbPictures" (247 : Nat) "CrumbPictures" "snapshot" "LCrumbPictures$Sheet;") ∈ lw_all := lw_g (lw_at lw_m2 158 rfl) rfl
theorem q505 : (Jvm.Cond.fieldLink "CrumbPictures" (70 : Nat) "CrumbPictures" "text" "Ljava/lang/StringBuilder;") ∈ lw_all := lw_g (lw_at lw_m2 160 rfl) rfl
theorem q506 : (Jvm.Cond.fieldLink "CrumbPictures" (341 : Nat) "CrumbPictures" "hash" "J") ∈ lw_all := lw_g (lw_at lw_m2 161 rfl) rfl
theorem q507 : (Jvm.Cond.laysFinal "CrumbPictures" "CrumbPictures" "now" "LCrumbPictures$Sheet;") ∈ lw_all := lw_g (lw_at lw_m2 162 rfl) rfl
theorem q508 : (Jvm.Cond.soleField "CrumbPictures" "now") ∈ lw_all := lw_g (lw_at lw_m2 163 rfl) rfl
theorem q509 : (Jvm.Cond.laysFinal "CrumbPictures" "CrumbPictures" "orders" "[LCrumbPictures$Order;") ∈ lw_all := lw_g (lw_at lw_m2 164 rfl) rfl
theorem q510 : (Jvm.Cond.soleField "CrumbPictures" "orders") ∈ lw_all := lw_g (lw_at lw_m2 165 rfl) rfl
theorem q511 : (Jvm.Cond.laysFinal "CrumbPictures" "CrumbPictures" "splitter" "LCrumbPictures$Splitter;") ∈ lw_all := lw_g (lw_at lw_m2 166 rfl) rfl
theorem q512 : (Jvm.Cond.soleField "CrumbPictures" "splitter") ∈ lw_all := lw_g (lw_at lw_m2 167 rfl) rfl
theorem q513 : (Jvm.Cond.laysFinal "CrumbPictures" "CrumbPictures" "trees" "LCrumbPictures$Trees;") ∈ lw_all := lw_g (lw_at lw_m2 168 rfl) rfl
theorem q514 : (Jvm.Cond.soleField "CrumbPictures" "trees") ∈ lw_all := lw_g (lw_at lw_m2 169 rfl) rfl
theorem q515 : (Jvm.Cond.laysFinal "CrumbPictures" "CrumbPictures" "code" "LCrumbPictures$Code;") ∈ lw_all := lw_g (lw_at lw_m2 170 rfl) rfl
theorem q516 : (Jvm.Cond.soleField "CrumbPictures" "code") ∈ lw_all := lw_g (lw_at lw_m2 171 rfl) rfl
theorem q517 : (Jvm.Cond.laysFinal "CrumbPictures" "CrumbPictures" "parts" "[I") ∈ lw_all := lw_g (lw_at lw_m2 172 rfl) rfl
theorem q518 : (Jvm.Cond.soleField "CrumbPictures" "parts") ∈ lw_all := lw_g (lw_at lw_m2 173 rfl) rfl
theorem q519 : (Jvm.Cond.laysFinal "CrumbPictures" "CrumbPictures" "others" "[I") ∈ lw_all := lw_g (lw_at lw_m2 174 rfl) rfl
theorem q520 : (Jvm.Cond.soleField "CrumbPictures" "others") ∈ lw_all := lw_g (lw_at lw_m2 175 rfl) rfl
theorem q521 : (Jvm.Cond.laysFinal "CrumbPictures" "CrumbPictures" "room" "[I") ∈ lw_all := lw_g (lw_at lw_m2 176 rfl) rfl
theorem q522 : (Jvm.Cond.soleField "CrumbPictures" "room") ∈ lw_all := lw_g (lw_at lw_m2 177 rfl) rfl
theorem q523 : (Jvm.Cond.laysFinal "CrumbPictures" "CrumbPictures" "saved" "Ljava/util/ArrayList;") ∈ lw_all := lw_g (lw_at lw_m2 178 rfl) rfl
theorem q524 : (Jvm.Cond.soleField "CrumbPictures" "saved") ∈ lw_all := lw_g (lw_at lw_m2 179 rfl) rfl
theorem q525 : (Jvm.Cond.lays "CrumbPictures" "CrumbPictures" "snapshot" "LCrumbPictures$Sheet;") ∈ lw_all := lw_g (lw_at lw_m2 180 rfl) rfl
theorem q526 : (Jvm.Cond.soleField "CrumbPictures" "snapshot") ∈ lw_all := lw_g (lw_at lw_m2 181 rfl) rfl
theorem q527 : (Jvm.Cond.laysFinal "CrumbPictures" "CrumbPictures" "text" "Ljava/lang/StringBuilder;") ∈ lw_all := lw_g (lw_at lw_m2 182 rfl) rfl
theorem q528 : (Jvm.Cond.soleField "CrumbPictures" "text") ∈ lw_all := lw_g (lw_at lw_m2 183 rfl) rfl
theorem q529 : (Jvm.Cond.lays "CrumbPictures" "CrumbPictures" "hash" "J") ∈ lw_all := lw_g (lw_at lw_m2 184 rfl) rfl
theorem q530 : (Jvm.Cond.soleField "CrumbPictures" "hash") ∈ lw_all := lw_g (lw_at lw_m2 185 rfl) rfl
theorem q531 : (Jvm.Cond.superclass "CrumbPictures" "java/lang/Object") ∈ lw_all := lw_g (lw_at lw_m2 186 rfl) rfl
theorem q533 : (Jvm.Cond.instanceMethod ({ cls := "CrumbPictures", name := "turnRight", desc := "()I" } : Jvm.MethodName)) ∈ lw_all := lw_g (lw_at lw_m2 188 rfl) rfl
theorem q534 : (Jvm.Cond.selects "CrumbPictures" ({ cls := "CrumbPictures", name := "turnRight", desc := "()I" } : Jvm.MethodName) ({ cls := "CrumbPictures", name := "turnRight", desc := "()I" } : Jvm.MethodName)) ∈ lw_all := lw_g (lw_at lw_m2 189 rfl) rfl
theorem q535 : (Jvm.Cond.code ({ cls := "CrumbPictures", name := "turnRight", desc := "()I" } : Jvm.MethodName) prog_1_method_25_code (1 : Nat) (Option.some Jvm.ClassFile.FieldType.int)) ∈ lw_all := lw_g (lw_at lw_m2 190 rfl) rfl
theorem q536 : (Jvm.Cond.methodLink "CrumbPictures" (127 : Nat) ({ cls := "CrumbPictures", name := "save", desc := "()V" } : Jvm.MethodName)) ∈ lw_all := lw_g (lw_at lw_m2 191 rfl) rfl
theorem q537 : (Jvm.Cond.privateMethod ({ cls := "CrumbPictures", name := "save", desc := "()V" } : Jvm.MethodName)) ∈ lw_tbl := lw_at lw_m2 192 rfl
theorem q538 : (Jvm.Cond.instanceMethod ({ cls := "CrumbPictures", name := "save", desc := "()V" } : Jvm.MethodName)) ∈ lw_all := lw_g (lw_at lw_m2 193 rfl) rfl
theorem q539 : (Jvm.Cond.code ({ cls := "CrumbPictures", name := "save", desc := "()V" } : Jvm.MethodName) prog_1_method_7_code (2 : Nat) (Option.none : Option Jvm.ClassFile.FieldType)) ∈ lw_all := lw_g (lw_at lw_m2 194 rfl) rfl
theorem q540 : (Jvm.Cond.methodLink "CrumbPictures" (74 : Nat) ({ cls := "java/util/ArrayList", name := "size", desc := "()I" } : Jvm.MethodName)) ∈ lw_all := lw_g (lw_at lw_m2 195 rfl) rfl
theorem q544 : (Jvm.Cond.methodLink "CrumbPictures" (78 : Nat) ({ cls := "java/util/ArrayList", name := "remove", desc := "(I)Ljava/lang/Object;" } : Jvm.MethodName)) ∈ lw_all := lw_g (lw_at lw_m2 199 rfl) rfl
theorem q561 : (Jvm.Cond.methodLink "CrumbPictures" (82 : Nat) ({ cls := "CrumbPictures$Sheet", name := "become", desc := "(LCrumbPictures$Sheet;)LCrumbPictures$Sheet;" } : Jvm.MethodName)) ∈ lw_all := lw_g (lw_at lw_m2 216 rfl) rfl
theorem q566 : (Jvm.Cond.methodLink "CrumbPictures" (86 : Nat) ({ cls := "java/util/ArrayList", name := "add", desc := "(Ljava/lang/Object;)Z" } : Jvm.MethodName)) ∈ lw_all := lw_g (lw_at lw_m2 221 rfl) rfl
theorem q598 : (Jvm.Cond.selects "CrumbPictures" ({ cls := "java/lang/Object", name := "getClass", desc := "()Ljava/lang/Class;" } : Jvm.MethodName) ({ cls := "java/lang/Object", name := "getClass", desc := "()Ljava/lang/Class;" } : Jvm.MethodName)) ∈ lw_all := lw_g (lw_at lw_m3 13 rfl) rfl
theorem q632 : (Jvm.Cond.methodLink "CrumbPictures" (195 : Nat) ({ cls := "CrumbPictures$Sheet", name := "turn", desc := "([IZ)I" } : Jvm.MethodName)) ∈ lw_all := lw_g (lw_at lw_m3 47 rfl) rfl
theorem q645 : (Jvm.Cond.instanceMethod ({ cls := "CrumbPictures", name := "mirror", desc := "()I" } : Jvm.MethodName)) ∈ lw_all := lw_g (lw_at lw_m3 60 rfl) rfl
theorem q646 : (Jvm.Cond.selects "CrumbPictures" ({ cls := "CrumbPictures", name := "mirror", desc := "()I" } : Jvm.MethodName) ({ cls := "CrumbPictures", name := "mirror", desc := "()I" } : Jvm.MethodName)) ∈ lw_all := lw_g (lw_at lw_m3 61 rfl) rfl
theorem q647 : (Jvm.Cond.code ({ cls := "CrumbPictures", name := "mirror", desc := "()I" } : Jvm.MethodName) prog_1_method_26_code (1 : Nat) (Option.some Jvm.ClassFile.FieldType.int)) ∈ lw_all := lw_g (lw_at lw_m3 62 rfl) rfl
theorem q649 : (Jvm.Cond.instanceMethod ({ cls := "CrumbPictures", name := "invert", desc := "()I" } : Jvm.MethodName)) ∈ lw_all := lw_g (lw_at lw_m3 64 rfl) rfl
theorem q650 : (Jvm.Cond.selects "CrumbPictures" ({ cls := "CrumbPictures", name := "invert", desc := "()I" } : Jvm.MethodName) ({ cls := "CrumbPictures", name := "invert", desc := "()I" } : Jvm.MethodName)) ∈ lw_all := lw_g (lw_at lw_m3 65 rfl) rfl
theorem q651 : (Jvm.Cond.code ({ cls := "CrumbPictures", name := "invert", desc := "()I" } : Jvm.MethodName) prog_1_method_27_code (1 : Nat) (Option.some Jvm.ClassFile.FieldType.int)) ∈ lw_all := lw_g (lw_at lw_m3 66 rfl) rfl
theorem q652 : (Jvm.Cond.methodLink "CrumbPictures" (199 : Nat) ({ cls := "CrumbPictures$Sheet", name := "invert", desc := "()I" } : Jvm.MethodName)) ∈ lw_all := lw_g (lw_at lw_m3 67 rfl) rfl
theorem q661 : (Jvm.Cond.instanceMethod ({ cls := "CrumbPictures", name := "clearBuffer", desc := "()I" } : Jvm.MethodName)) ∈ lw_all := lw_g (lw_at lw_m3 76 rfl) rfl
theorem q662 : (Jvm.Cond.selects "CrumbPictures" ({ cls := "CrumbPictures", name := "clearBuffer", desc := "()I" } : Jvm.MethodName) ({ cls := "CrumbPictures", name := "clearBuffer", desc := "()I" } : Jvm.MethodName)) ∈ lw_all := lw_g (lw_at lw_m3 77 rfl) rfl
theorem q663 : (Jvm.Cond.code ({ cls := "CrumbPictures", name := "clearBuffer", desc := "()I" } : Jvm.MethodName) prog_1_method_29_code (2 : Nat) (Option.some Jvm.ClassFile.FieldType.int)) ∈ lw_all := lw_g (lw_at lw_m3 78 rfl) rfl
theorem q664 : (Jvm.Cond.methodLink "CrumbPictures" (202 : Nat) ({ cls := "java/lang/StringBuilder", name := "length", desc := "()I" } : Jvm.MethodName)) ∈ lw_all := lw_g (lw_at lw_m3 79 rfl) rfl
theorem q671 : (Jvm.Cond.methodLink "CrumbPictures" (209 : Nat) ({ cls := "java/lang/StringBuilder", name := "setLength", desc := "(I)V" } : Jvm.MethodName)) ∈ lw_all := lw_g (lw_at lw_m3 86 rfl) rfl
theorem q951 : (Jvm.Cond.instanceMethod ({ cls := "CrumbPictures", name := "firstError", desc := "()I" } : Jvm.MethodName)) ∈ lw_all := lw_g (lw_at lw_m4 126 rfl) rfl
theorem q952 : (Jvm.Cond.selects "CrumbPictures" ({ cls := "CrumbPictures", name := "firstError", desc := "()I" } : Jvm.MethodName) ({ cls := "CrumbPictures", name := "firstError", desc := "()I" } : Jvm.MethodName)) ∈ lw_all := lw_g (lw_at lw_m4 127 rfl) rfl
theorem q953 : (Jvm.Cond.code ({ cls := "CrumbPictures", name := "firstError", desc := "()I" } : Jvm.MethodName) prog_1_method_30_code (2 : Nat) (Option.some Jvm.ClassFile.FieldType.int)) ∈ lw_all := lw_g (lw_at lw_m4 128 rfl) rfl
theorem q954 : (Jvm.Cond.classLink "CrumbPictures" (212 : Nat) "CrumbPictures$Reader") ∈ lw_all := lw_g (lw_at lw_m4 129 rfl) rfl
theorem q956 : (Jvm.Cond.methodLinkNest "CrumbPictures" (214 : Nat) ({ cls := "CrumbPictures$Reader", name := "<init>", desc := "(LCrumbPictures;)V" } : Jvm.MethodName) "CrumbPictures") ∈ lw_tbl := lw_at lw_m4 131 rfl
theorem q961 : (Jvm.Cond.fieldLinkNest "CrumbPictures" (227 : Nat) "CrumbPictures$Reader" "found" "[I" "CrumbPictures") ∈ lw_tbl := lw_at lw_m4 136 rfl
theorem q963 : (Jvm.Cond.fieldLinkNest "CrumbPictures" (224 : Nat) "CrumbPictures$Reader" "many" "I" "CrumbPictures") ∈ lw_tbl := lw_at lw_m4 138 rfl
theorem q965 : (Jvm.Cond.fieldLinkNest "CrumbPictures" (221 : Nat) "CrumbPictures$Reader" "place" "I" "CrumbPictures") ∈ lw_tbl := lw_at lw_m4 140 rfl
theorem q976 : (Jvm.Cond.methodLink "CrumbPictures" (217 : Nat) ({ cls := "CrumbPictures$Reader", name := "areWorks", desc := "()Z" } : Jvm.MethodName)) ∈ lw_all := lw_g (lw_at lw_m4 151 rfl) rfl
theorem q1019 : (Jvm.Cond.static ({ cls := "CrumbPictures", name := "in", desc := "(III)Z" } : Jvm.MethodName)) ∈ lw_all := lw_g (lw_at lw_m4 194 rfl) rfl
theorem q1020 : (Jvm.Cond.code ({ cls := "CrumbPictures", name := "in", desc := "(III)Z" } : Jvm.MethodName) prog_1_method_1_code (3 : Nat) (Option.some Jvm.ClassFile.FieldType.boolean)) ∈ lw_all := lw_g (lw_at lw_m4 195 rfl) rfl
theorem q1035 : (Jvm.Cond.instanceMethod ({ cls := "CrumbPictures", name := "hasStopped", desc := "()Z" } : Jvm.MethodName)) ∈ lw_all := lw_g (lw_at lw_m4 210 rfl) rfl
theorem q1036 : (Jvm.Cond.selects "CrumbPictures" ({ cls := "CrumbPictures", name := "hasStopped", desc := "()Z" } : Jvm.MethodName) ({ cls := "CrumbPictures", name := "hasStopped", desc := "()Z" } : Jvm.MethodName)) ∈ lw_all := lw_g (lw_at lw_m4 211 rfl) rfl
theorem q1037 : (Jvm.Cond.code ({ cls := "CrumbPictures", name := "hasStopped", desc := "()Z" } : Jvm.MethodName) prog_1_method_34_code (1 : Nat) (Option.some Jvm.ClassFile.FieldType.boolean)) ∈ lw_all := lw_g (lw_at lw_m4 212 rfl) rfl
theorem q1039 : (Jvm.Cond.instanceMethod ({ cls := "CrumbPictures", name := "keep", desc := "()I" } : Jvm.MethodName)) ∈ lw_all := lw_g (lw_at lw_m4 214 rfl) rfl
theorem q1040 : (Jvm.Cond.selects "CrumbPictures" ({ cls := "CrumbPictures", name := "keep", desc := "()I" } : Jvm.MethodName) ({ cls := "CrumbPictures", name := "keep", desc := "()I" } : Jvm.MethodName)) ∈ lw_all := lw_g (lw_at lw_m4 215 rfl) rfl
theorem q1041 : (Jvm.Cond.code ({ cls := "CrumbPictures", name := "keep", desc := "()I" } : Jvm.MethodName) prog_1_method_38_code (1 : Nat) (Option.some Jvm.ClassFile.FieldType.int)) ∈ lw_all := lw_g (lw_at lw_m4 216 rfl) rfl
theorem q1042 : (Jvm.Cond.methodLink "CrumbPictures" (250 : Nat) ({ cls := "CrumbPictures$Sheet", name := "sum", desc := "()I" } : Jvm.MethodName)) ∈ lw_all := lw_g (lw_at lw_m4 217 rfl) rfl
theorem q1044 : (Jvm.Cond.instanceMethod ({ cls := "CrumbPictures", name := "savedStates", desc := "()I" } : Jvm.MethodName)) ∈ lw_all := lw_g (lw_at lw_m4 219 rfl) rfl
theorem q1045 : (Jvm.Cond.selects "CrumbPictures" ({ cls := "CrumbPictures", name := "savedStates", desc := "()I" } : Jvm.MethodName) ({ cls := "CrumbPictures", name := "savedStates", desc := "()I" } : Jvm.MethodName)) ∈ lw_all := lw_g (lw_at lw_m4 220 rfl) rfl
theorem q1046 : (Jvm.Cond.code ({ cls := "CrumbPictures", name := "savedStates", desc := "()I" } : Jvm.MethodName) prog_1_method_40_code (1 : Nat) (Option.some Jvm.ClassFile.FieldType.int)) ∈ lw_all := lw_g (lw_at lw_m4 221 rfl) rfl
theorem q1048 : (Jvm.Cond.instanceMethod ({ cls := "CrumbPictures", name := "levels", desc := "()I" } : Jvm.MethodName)) ∈ lw_all := lw_g (lw_at lw_m4 223 rfl) rfl
theorem q1049 : (Jvm.Cond.selects "CrumbPictures" ({ cls := "CrumbPictures", name := "levels", desc := "()I" } : Jvm.MethodName) ({ cls := "CrumbPictures", name := "levels", desc := "()I" } : Jvm.MethodName)) ∈ lw_all := lw_g (lw_at lw_m4 224 rfl) rfl
theorem q1050 : (Jvm.Cond.code ({ cls := "CrumbPictures", name := "levels", desc := "()I" } : Jvm.MethodName) prog_1_method_42_code (1 : Nat) (Option.some Jvm.ClassFile.FieldType.int)) ∈ lw_all := lw_g (lw_at lw_m4 225 rfl) rfl
theorem q1052 : (Jvm.Cond.instanceMethod ({ cls := "CrumbPictures", name := "allShades", desc := "()I" } : Jvm.MethodName)) ∈ lw_all := lw_g (lw_at lw_m4 227 rfl) rfl
theorem q1053 : (Jvm.Cond.selects "CrumbPictures" ({ cls := "CrumbPictures", name := "allShades", desc := "()I" } : Jvm.MethodName) ({ cls := "CrumbPictures", name := "allShades", desc := "()I" } : Jvm.MethodName)) ∈ lw_all := lw_g (lw_at lw_m4 228 rfl) rfl
theorem q1054 : (Jvm.Cond.code ({ cls := "CrumbPictures", name := "allShades", desc := "()I" } : Jvm.MethodName) prog_1_method_43_code (1 : Nat) (Option.some Jvm.ClassFile.FieldType.int)) ∈ lw_all := lw_g (lw_at lw_m4 229 rfl) rfl
theorem q1056 : (Jvm.Cond.instanceMethod ({ cls := "CrumbPictures", name := "codeLength", desc := "()I" } : Jvm.MethodName)) ∈ lw_all := lw_g (lw_at lw_m4 231 rfl) rfl
theorem q1057 : (Jvm.Cond.selects "CrumbPictures" ({ cls := "CrumbPictures", name := "codeLength", desc := "()I" } : Jvm.MethodName) ({ cls := "CrumbPictures", name := "codeLength", desc := "()I" } : Jvm.MethodName)) ∈ lw_all := lw_g (lw_at lw_m4 232 rfl) rfl
theorem q1058 : (Jvm.Cond.code ({ cls := "CrumbPictures", name := "codeLength", desc := "()I" } : Jvm.MethodName) prog_1_method_67_code (1 : Nat) (Option.some Jvm.ClassFile.FieldType.int)) ∈ lw_all := lw_g (lw_at lw_m4 233 rfl) rfl
theorem q1059 : (Jvm.Cond.methodLink "CrumbPictures" (301 : Nat) ({ cls := "CrumbPictures", name := "coded", desc := "()LCrumbPictures$Code;" } : Jvm.MethodName)) ∈ lw_all := lw_g (lw_at lw_m4 234 rfl) rfl
theorem q1060 : (Jvm.Cond.privateMethod ({ cls := "CrumbPictures", name := "coded", desc := "()LCrumbPictures$Code;" } : Jvm.MethodName)) ∈ lw_tbl := lw_at lw_m4 235 rfl
theorem q1061 : (Jvm.Cond.instanceMethod ({ cls := "CrumbPictures", name := "coded", desc := "()LCrumbPictures$Code;" } : Jvm.MethodName)) ∈ lw_all := lw_g (lw_at lw_m4 236 rfl) rfl
theorem q1062 : (Jvm.Cond.code ({ cls := "CrumbPictures", name := "coded", desc := "()LCrumbPictures$Code;" } : Jvm.MethodName) prog_1_method_66_code (1 : Nat) (Option.some (Jvm.ClassFile.FieldType.object "CrumbPictures$Code"))) ∈ lw_all := lw_g (lw_at lw_m4 237 rfl) rfl
theorem q1063 : (Jvm.Cond.methodLink "CrumbPictures" (140 : Nat) ({ cls := "CrumbPictures", name := "parted", desc := "()[I" } : Jvm.MethodName)) ∈ lw_all := lw_g (lw_at lw_m4 238 rfl) rfl
theorem q1064 : (Jvm.Cond.privateMethod ({ cls := "CrumbPictures", name := "parted", desc := "()[I" } : Jvm.MethodName)) ∈ lw_tbl := lw_at lw_m4 239 rfl
theorem q1065 : (Jvm.Cond.instanceMethod ({ cls := "CrumbPictures", name := "parted", desc := "()[I" } : Jvm.MethodName)) ∈ lw_all := lw_g (lw_at lw_m5 0 rfl) rfl
theorem q1066 : (Jvm.Cond.code ({ cls := "CrumbPictures", name := "parted", desc := "()[I" } : Jvm.MethodName) prog_1_method_15_code (1 : Nat) (Option.some (Jvm.ClassFile.FieldType.array Jvm.ClassFile.FieldType.int))) ∈ lw_all := lw_g (lw_at lw_m5 1 rfl) rfl
theorem q1067 : (Jvm.Cond.methodLink "CrumbPictures" (117 : Nat) ({ cls := "CrumbPictures$Splitter", name := "split", desc := "([I[II)[I" } : Jvm.MethodName)) ∈ lw_all := lw_g (lw_at lw_m5 2 rfl) rfl
theorem q1077 : (Jvm.Cond.static ({ cls := "CrumbPictures", name := "sumOf", desc := "(II)I" } : Jvm.MethodName)) ∈ lw_all := lw_g (lw_at lw_m5 12 rfl) rfl
theorem q1078 : (Jvm.Cond.code ({ cls := "CrumbPictures", name := "sumOf", desc := "(II)I" } : Jvm.MethodName) prog_1_method_2_code (2 : Nat) (Option.some Jvm.ClassFile.FieldType.int)) ∈ lw_all := lw_g (lw_at lw_m5 13 rfl) rfl
theorem q1083 : (Jvm.Cond.methodLink "CrumbPictures" (161 : Nat) ({ cls := "CrumbPictures", name := "order", desc := "()LCrumbPictures$Order;" } : Jvm.MethodName)) ∈ lw_all := lw_g (lw_at lw_m5 18 rfl) rfl
theorem q1084 : (Jvm.Cond.privateMethod ({ cls := "CrumbPictures", name := "order", desc := "()LCrumbPictures$Order;" } : Jvm.MethodName)) ∈ lw_tbl := lw_at lw_m5 19 rfl
theorem q1085 : (Jvm.Cond.instanceMethod ({ cls := "CrumbPictures", name := "order", desc := "()LCrumbPictures$Order;" } : Jvm.MethodName)) ∈ lw_all := lw_g (lw_at lw_m5 20 rfl) rfl
theorem q1086 : (Jvm.Cond.code ({ cls := "CrumbPictures", name := "order", desc := "()LCrumbPictures$Order;" } : Jvm.MethodName) prog_1_method_14_code (1 : Nat) (Option.some (Jvm.ClassFile.FieldType.object "CrumbPictures$Order"))) ∈ lw_all := lw_g (lw_at lw_m5 21 rfl) rfl
theorem q1087 : (Jvm.Cond.methodLink "CrumbPictures" (297 : Nat) ({ cls := "CrumbPictures$Code", name := "write", desc := "([ILCrumbPictures$Order;)LCrumbPictures$Code;" } : Jvm.MethodName)) ∈ lw_all := lw_g (lw_at lw_m5 22 rfl) rfl
theorem q1173 : (Jvm.Cond.instanceMethod ({ cls := "CrumbPictures", name := "zeroRuns", desc := "()I" } : Jvm.MethodName)) ∈ lw_all := lw_g (lw_at lw_m5 108 rfl) rfl
theorem q1174 : (Jvm.Cond.selects "CrumbPictures" ({ cls := "CrumbPictures", name := "zeroRuns", desc := "()I" } : Jvm.MethodName) ({ cls := "CrumbPictures", name := "zeroRuns", desc := "()I" } : Jvm.MethodName)) ∈ lw_all := lw_g (lw_at lw_m5 109 rfl) rfl
theorem q1175 : (Jvm.Cond.code ({ cls := "CrumbPictures", name := "zeroRuns", desc := "()I" } : Jvm.MethodName) prog_1_method_71_code (1 : Nat) (Option.some Jvm.ClassFile.FieldType.int)) ∈ lw_all := lw_g (lw_at lw_m5 110 rfl) rfl
theorem q1176 : (Jvm.Cond.methodLink "CrumbPictures" (324 : Nat) ({ cls := "CrumbPictures", name := "runsTold", desc := "()I" } : Jvm.MethodName)) ∈ lw_all := lw_g (lw_at lw_m5 111 rfl) rfl
theorem q1177 : (Jvm.Cond.privateMethod ({ cls := "CrumbPictures", name := "runsTold", desc := "()I" } : Jvm.MethodName)) ∈ lw_tbl := lw_at lw_m5 112 rfl
theorem q1178 : (Jvm.Cond.instanceMethod ({ cls := "CrumbPictures", name := "runsTold", desc := "()I" } : Jvm.MethodName)) ∈ lw_all := lw_g (lw_at lw_m5 113 rfl) rfl
theorem q1179 : (Jvm.Cond.code ({ cls := "CrumbPictures", name := "runsTold", desc := "()I" } : Jvm.MethodName) prog_1_method_70_code (4 : Nat) (Option.some Jvm.ClassFile.FieldType.int)) ∈ lw_all := lw_g (lw_at lw_m5 114 rfl) rfl
theorem q1180 : (Jvm.Cond.methodLink "CrumbPictures" (320 : Nat) ({ cls := "CrumbPictures$Code", name := "runFrom", desc := "([ILCrumbPictures$Order;I)I" } : Jvm.MethodName)) ∈ lw_all := lw_g (lw_at lw_m5 115 rfl) rfl
theorem q1181 : (Jvm.Cond.methodLink "CrumbPictures" (180 : Nat) ({ cls := "java/lang/Math", name := "max", desc := "(II)I" } : Jvm.MethodName)) ∈ lw_all := lw_g (lw_at lw_m5 116 rfl) rfl
theorem q1183 : (Jvm.Cond.instanceMethod ({ cls := "CrumbPictures", name := "zeroShare", desc := "()D" } : Jvm.MethodName)) ∈ lw_all := lw_g (lw_at lw_m5 118 rfl) rfl
theorem q1184 : (Jvm.Cond.selects "CrumbPictures" ({ cls := "CrumbPictures", name := "zeroShare", desc := "()D" } : Jvm.MethodName) ({ cls := "CrumbPictures", name := "zeroShare", desc := "()D" } : Jvm.MethodName)) ∈ lw_all := lw_g (lw_at lw_m5 119 rfl) rfl
theorem q1185 : (Jvm.Cond.code ({ cls := "CrumbPictures", name := "zeroShare", desc := "()D" } : Jvm.MethodName) prog_1_method_78_code (1 : Nat) (Option.some Jvm.ClassFile.FieldType.double)) ∈ lw_all := lw_g (lw_at lw_m5 120 rfl) rfl
theorem q1186 : (Jvm.Cond.methodLink "CrumbPictures" (335 : Nat) ({ cls := "CrumbPictures", name := "shareTold", desc := "()D" } : Jvm.MethodName)) ∈ lw_all := lw_g (lw_at lw_m5 121 rfl) rfl
theorem q1187 : (Jvm.Cond.privateMethod ({ cls := "CrumbPictures", name := "shareTold", desc := "()D" } : Jvm.MethodName)) ∈ lw_tbl := lw_at lw_m5 122 rfl
theorem q1188 : (Jvm.Cond.instanceMethod ({ cls := "CrumbPictures", name := "shareTold", desc := "()D" } : Jvm.MethodName)) ∈ lw_all := lw_g (lw_at lw_m5 123 rfl) rfl
theorem q1189 : (Jvm.Cond.code ({ cls := "CrumbPictures", name := "shareTold", desc := "()D" } : Jvm.MethodName) prog_1_method_77_code (6 : Nat) (Option.some Jvm.ClassFile.FieldType.double)) ∈ lw_all := lw_g (lw_at lw_m5 124 rfl) rfl
theorem q1190 : (Jvm.Cond.constantDouble "CrumbPictures" (333 : Nat) (4634204016564240384 : UInt64)) ∈ lw_all := lw_g (lw_at lw_m5 125 rfl) rfl
theorem q1192 : (Jvm.Cond.instanceMethod ({ cls := "CrumbPictures", name := "digest", desc := "()J" } : Jvm.MethodName)) ∈ lw_all := lw_g (lw_at lw_m5 127 rfl) rfl
theorem q1193 : (Jvm.Cond.selects "CrumbPictures" ({ cls := "CrumbPictures", name := "digest", desc := "()J" } : Jvm.MethodName) ({ cls := "CrumbPictures", name := "digest", desc := "()J" } : Jvm.MethodName)) ∈ lw_all := lw_g (lw_at lw_m5 128 rfl) rfl
theorem q1194 : (Jvm.Cond.code ({ cls := "CrumbPictures", name := "digest", desc := "()J" } : Jvm.MethodName) prog_1_method_84_code (2 : Nat) (Option.some Jvm.ClassFile.FieldType.long)) ∈ lw_all := lw_g (lw_at lw_m5 129 rfl) rfl
theorem q1195 : (Jvm.Cond.constantLong "CrumbPictures" (352 : Nat) (4663 : Int64)) ∈ lw_all := lw_g (lw_at lw_m5 130 rfl) rfl
theorem q1196 : (Jvm.Cond.methodLink "CrumbPictures" (345 : Nat) ({ cls := "CrumbPictures", name := "mix", desc := "(J)V" } : Jvm.MethodName)) ∈ lw_all := lw_g (lw_at lw_m5 131 rfl) rfl
theorem q1197 : (Jvm.Cond.privateMethod ({ cls := "CrumbPictures", name := "mix", desc := "(J)V" } : Jvm.MethodName)) ∈ lw_tbl := lw_at lw_m5 132 rfl
theorem q1198 : (Jvm.Cond.instanceMethod ({ cls := "CrumbPictures", name := "mix", desc := "(J)V" } : Jvm.MethodName)) ∈ lw_all := lw_g (lw_at lw_m5 133 rfl) rfl
theorem q1199 : (Jvm.Cond.code ({ cls := "CrumbPictures", name := "mix", desc := "(J)V" } : Jvm.MethodName) prog_1_method_79_code (3 : Nat) (Option.none : Option Jvm.ClassFile.FieldType)) ∈ lw_all := lw_g (lw_at lw_m5 134 rfl) rfl
theorem q1200 : (Jvm.Cond.constantLong "CrumbPictures" (339 : Nat) (31 : Int64)) ∈ lw_all := lw_g (lw_at lw_m5 135 rfl) rfl
theorem q1201 : (Jvm.Cond.methodLink "CrumbPictures" (354 : Nat) ({ cls := "CrumbPictures", name := "mixCells", desc := "()V" } : Jvm.MethodName)) ∈ lw_all := lw_g (lw_at lw_m5 136 rfl) rfl
theorem q1202 : (Jvm.Cond.privateMethod ({ cls := "CrumbPictures", name := "mixCells", desc := "()V" } : Jvm.MethodName)) ∈ lw_tbl := lw_at lw_m5 137 rfl
theorem q1203 : (Jvm.Cond.instanceMethod ({ cls := "CrumbPictures", name := "mixCells", desc := "()V" } : Jvm.MethodName)) ∈ lw_all := lw_g (lw_at lw_m5 138 rfl) rfl
theorem q1204 : (Jvm.Cond.code ({ cls := "CrumbPictures", name := "mixCells", desc := "()V" } : Jvm.MethodName) prog_1_method_81_code (3 : Nat) (Option.none : Option Jvm.ClassFile.FieldType)) ∈ lw_all := lw_g (lw_at lw_m5 139 rfl) rfl
theorem q1205 : (Jvm.Cond.methodLink "CrumbPictures" (150 : Nat) ({ cls := "CrumbPictures$Splitter", name := "join", desc := "([I[II)[I" } : Jvm.MethodName)) ∈ lw_all := lw_g (lw_at lw_m5 140 rfl) rfl
theorem q1214 : (Jvm.Cond.static ({ cls := "CrumbPictures", name := "oneOf", desc := "(III)I" } : Jvm.MethodName)) ∈ lw_all := lw_g (lw_at lw_m5 149 rfl) rfl
theorem q1215 : (Jvm.Cond.code ({ cls := "CrumbPictures", name := "oneOf", desc := "(III)I" } : Jvm.MethodName) prog_1_method_3_code (4 : Nat) (Option.some Jvm.ClassFile.FieldType.int)) ∈ lw_all := lw_g (lw_at lw_m5 150 rfl) rfl
theorem q1216 : (Jvm.Cond.methodLink "CrumbPictures" (259 : Nat) ({ cls := "CrumbPictures", name := "numberAt", desc := "(III)I" } : Jvm.MethodName)) ∈ lw_all := lw_g (lw_at lw_m5 151 rfl) rfl
theorem q1217 : (Jvm.Cond.privateMethod ({ cls := "CrumbPictures", name := "numberAt", desc := "(III)I" } : Jvm.MethodName)) ∈ lw_tbl := lw_at lw_m5 152 rfl
theorem q1218 : (Jvm.Cond.instanceMethod ({ cls := "CrumbPictures", name := "numberAt", desc := "(III)I" } : Jvm.MethodName)) ∈ lw_all := lw_g (lw_at lw_m5 153 rfl) rfl
theorem q1219 : (Jvm.Cond.code ({ cls := "CrumbPictures", name := "numberAt", desc := "(III)I" } : Jvm.MethodName) prog_1_method_50_code (9 : Nat) (Option.some Jvm.ClassFile.FieldType.int)) ∈ lw_all := lw_g (lw_at lw_m5 154 rfl) rfl
theorem q1220 : (Jvm.Cond.methodLink "CrumbPictures" (262 : Nat) ({ cls := "CrumbPictures", name := "oneOf", desc := "(III)I" } : Jvm.MethodName)) ∈ lw_all := lw_g (lw_at lw_m5 155 rfl) rfl
theorem q1221 : (Jvm.Cond.methodLink "CrumbPictures" (256 : Nat) ({ cls := "CrumbPictures", name := "energyTold", desc := "(I)I" } : Jvm.MethodName)) ∈ lw_all := lw_g (lw_at lw_m5 156 rfl) rfl
theorem q1222 : (Jvm.Cond.privateMethod ({ cls := "CrumbPictures", name := "energyTold", desc := "(I)I" } : Jvm.MethodName)) ∈ lw_tbl := lw_at lw_m5 157 rfl
theorem q1223 : (Jvm.Cond.instanceMethod ({ cls := "CrumbPictures", name := "energyTold", desc := "(I)I" } : Jvm.MethodName)) ∈ lw_all := lw_g (lw_at lw_m5 158 rfl) rfl
theorem q1224 : (Jvm.Cond.code ({ cls := "CrumbPictures", name := "energyTold", desc := "(I)I" } : Jvm.MethodName) prog_1_method_47_code (5 : Nat) (Option.some Jvm.ClassFile.FieldType.int)) ∈ lw_all := lw_g (lw_at lw_m5 159 rfl) rfl
theorem q1225 : (Jvm.Cond.methodLink "CrumbPictures" (357 : Nat) ({ cls := "CrumbPictures", name := "mixThresholds", desc := "()V" } : Jvm.MethodName)) ∈ lw_all := lw_g (lw_at lw_m5 160 rfl) rfl
theorem q1226 : (Jvm.Cond.privateMethod ({ cls := "CrumbPictures", name := "mixThresholds", desc := "()V" } : Jvm.MethodName)) ∈ lw_tbl := lw_at lw_m5 161 rfl
theorem q1227 : (Jvm.Cond.instanceMethod ({ cls := "CrumbPictures", name := "mixThresholds", desc := "()V" } : Jvm.MethodName)) ∈ lw_all := lw_g (lw_at lw_m5 162 rfl) rfl
theorem q1228 : (Jvm.Cond.code ({ cls := "CrumbPictures", name := "mixThresholds", desc := "()V" } : Jvm.MethodName) prog_1_method_82_code (5 : Nat) (Option.none : Option Jvm.ClassFile.FieldType)) ∈ lw_all := lw_g (lw_at lw_m5 163 rfl) rfl
theorem q1229 : (Jvm.Cond.fieldLink "CrumbPictures" (349 : Nat) "CrumbPictures" "TOLD" "[I") ∈ lw_all := lw_g (lw_at lw_m5 164 rfl) rfl
theorem q1230 : (Jvm.Cond.laysStatic "CrumbPictures" "TOLD" "[I") ∈ lw_tbl := lw_at lw_m5 165 rfl
theorem q1231 : (Jvm.Cond.methodLink "CrumbPictures" (183 : Nat) ({ cls := "CrumbPictures", name := "drop", desc := "(I)I" } : Jvm.MethodName)) ∈ lw_all := lw_g (lw_at lw_m5 166 rfl) rfl
theorem q1232 : (Jvm.Cond.privateMethod ({ cls := "CrumbPictures", name := "drop", desc := "(I)I" } : Jvm.MethodName)) ∈ lw_tbl := lw_at lw_m5 167 rfl
theorem q1233 : (Jvm.Cond.instanceMethod ({ cls := "CrumbPictures", name := "drop", desc := "(I)I" } : Jvm.MethodName)) ∈ lw_all := lw_g (lw_at lw_m5 168 rfl) rfl
theorem q1234 : (Jvm.Cond.code ({ cls := "CrumbPictures", name := "drop", desc := "(I)I" } : Jvm.MethodName) prog_1_method_21_code (5 : Nat) (Option.some Jvm.ClassFile.FieldType.int)) ∈ lw_all := lw_g (lw_at lw_m5 169 rfl) rfl
theorem q1235 : (Jvm.Cond.methodLink "CrumbPictures" (174 : Nat) ({ cls := "CrumbPictures", name := "isCrumb", desc := "(III)Z" } : Jvm.MethodName)) ∈ lw_all := lw_g (lw_at lw_m5 170 rfl) rfl
theorem q1236 : (Jvm.Cond.privateMethod ({ cls := "CrumbPictures", name := "isCrumb", desc := "(III)Z" } : Jvm.MethodName)) ∈ lw_tbl := lw_at lw_m5 171 rfl
theorem q1237 : (Jvm.Cond.instanceMethod ({ cls := "CrumbPictures", name := "isCrumb", desc := "(III)Z" } : Jvm.MethodName)) ∈ lw_all := lw_g (lw_at lw_m5 172 rfl) rfl
theorem q1238 : (Jvm.Cond.code ({ cls := "CrumbPictures", name := "isCrumb", desc := "(III)Z" } : Jvm.MethodName) prog_1_method_20_code (4 : Nat) (Option.some Jvm.ClassFile.FieldType.boolean)) ∈ lw_all := lw_g (lw_at lw_m5 173 rfl) rfl
theorem q1239 : (Jvm.Cond.methodLink "CrumbPictures" (168 : Nat) ({ cls := "java/lang/Math", name := "abs", desc := "(I)I" } : Jvm.MethodName)) ∈ lw_all := lw_g (lw_at lw_m5 174 rfl) rfl
theorem q1240 : (Jvm.Cond.methodLink "CrumbPictures" (268 : Nat) ({ cls := "CrumbPictures", name := "costTold", desc := "(I)I" } : Jvm.MethodName)) ∈ lw_all := lw_g (lw_at lw_m5 175 rfl) rfl
theorem q1241 : (Jvm.Cond.privateMethod ({ cls := "CrumbPictures", name := "costTold", desc := "(I)I" } : Jvm.MethodName)) ∈ lw_tbl := lw_at lw_m5 176 rfl
theorem q1242 : (Jvm.Cond.instanceMethod ({ cls := "CrumbPictures", name := "costTold", desc := "(I)I" } : Jvm.MethodName)) ∈ lw_all := lw_g (lw_at lw_m5 177 rfl) rfl
theorem q1243 : (Jvm.Cond.code ({ cls := "CrumbPictures", name := "costTold", desc := "(I)I" } : Jvm.MethodName) prog_1_method_54_code (2 : Nat) (Option.some Jvm.ClassFile.FieldType.int)) ∈ lw_all := lw_g (lw_at lw_m5 178 rfl) rfl
theorem q1244 : (Jvm.Cond.methodLink "CrumbPictures" (186 : Nat) ({ cls := "CrumbPictures", name := "backOfOthers", desc := "()[I" } : Jvm.MethodName)) ∈ lw_all := lw_g (lw_at lw_m5 179 rfl) rfl
theorem q1245 : (Jvm.Cond.privateMethod ({ cls := "CrumbPictures", name := "backOfOthers", desc := "()[I" } : Jvm.MethodName)) ∈ lw_tbl := lw_at lw_m5 180 rfl
theorem q1246 : (Jvm.Cond.instanceMethod ({ cls := "CrumbPictures", name := "backOfOthers", desc := "()[I" } : Jvm.MethodName)) ∈ lw_all := lw_g (lw_at lw_m5 181 rfl) rfl
theorem q1247 : (Jvm.Cond.code ({ cls := "CrumbPictures", name := "backOfOthers", desc := "()[I" } : Jvm.MethodName) prog_1_method_22_code (2 : Nat) (Option.some (Jvm.ClassFile.FieldType.array Jvm.ClassFile.FieldType.int))) ∈ lw_all := lw_g (lw_at lw_m5 182 rfl) rfl
theorem q1248 : (Jvm.Cond.methodLink "CrumbPictures" (177 : Nat) ({ cls := "java/lang/Math", name := "min", desc := "(II)I" } : Jvm.MethodName)) ∈ lw_all := lw_g (lw_at lw_m5 183 rfl) rfl
theorem q1249 : (Jvm.Cond.methodLink "CrumbPictures" (265 : Nat) ({ cls := "CrumbPictures", name := "apart", desc := "()I" } : Jvm.MethodName)) ∈ lw_all := lw_g (lw_at lw_m5 184 rfl) rfl
theorem q1250 : (Jvm.Cond.privateMethod ({ cls := "CrumbPictures", name := "apart", desc := "()I" } : Jvm.MethodName)) ∈ lw_tbl := lw_at lw_m5 185 rfl
theorem q1251 : (Jvm.Cond.instanceMethod ({ cls := "CrumbPictures", name := "apart", desc := "()I" } : Jvm.MethodName)) ∈ lw_all := lw_g (lw_at lw_m5 186 rfl) rfl
theorem q1252 : (Jvm.Cond.code ({ cls := "CrumbPictures", name := "apart", desc := "()I" } : Jvm.MethodName) prog_1_method_53_code (3 : Nat) (Option.some Jvm.ClassFile.FieldType.int)) ∈ lw_all := lw_g (lw_at lw_m5 187 rfl) rfl
theorem q1253 : (Jvm.Cond.methodLink "CrumbPictures" (271 : Nat) ({ cls := "CrumbPictures", name := "worstTold", desc := "(I)I" } : Jvm.MethodName)) ∈ lw_all := lw_g (lw_at lw_m5 188 rfl) rfl
theorem q1254 : (Jvm.Cond.privateMethod ({ cls := "CrumbPictures", name := "worstTold", desc := "(I)I" } : Jvm.MethodName)) ∈ lw_tbl := lw_at lw_m5 189 rfl
theorem q1255 : (Jvm.Cond.instanceMethod ({ cls := "CrumbPictures", name := "worstTold", desc := "(I)I" } : Jvm.MethodName)) ∈ lw_all := lw_g (lw_at lw_m5 190 rfl) rfl
theorem q1256 : (Jvm.Cond.code ({ cls := "CrumbPictures", name := "worstTold", desc := "(I)I" } : Jvm.MethodName) prog_1_method_56_code (4 : Nat) (Option.some Jvm.ClassFile.FieldType.int)) ∈ lw_all := lw_g (lw_at lw_m5 191 rfl) rfl
theorem q1257 : (Jvm.Cond.methodLink "CrumbPictures" (284 : Nat) ({ cls := "CrumbPictures", name := "treesOf", desc := "(I)LCrumbPictures$Trees;" } : Jvm.MethodName)) ∈ lw_all := lw_g (lw_at lw_m5 192 rfl) rfl
theorem q1258 : (Jvm.Cond.privateMethod ({ cls := "CrumbPictures", name := "treesOf", desc := "(I)LCrumbPictures$Trees;" } : Jvm.MethodName)) ∈ lw_tbl := lw_at lw_m5 193 rfl
theorem q1259 : (Jvm.Cond.instanceMethod ({ cls := "CrumbPictures", name := "treesOf", desc := "(I)LCrumbPictures$Trees;" } : Jvm.MethodName)) ∈ lw_all := lw_g (lw_at lw_m5 194 rfl) rfl
theorem q1260 : (Jvm.Cond.code ({ cls := "CrumbPictures", name := "treesOf", desc := "(I)LCrumbPictures$Trees;" } : Jvm.MethodName) prog_1_method_62_code (2 : Nat) (Option.some (Jvm.ClassFile.FieldType.object "CrumbPictures$Trees"))) ∈ lw_all := lw_g (lw_at lw_m5 195 rfl) rfl
theorem q1261 : (Jvm.Cond.methodLinkNest "CrumbPictures" (280 : Nat) ({ cls := "CrumbPictures$Trees", name := "of", desc := "([III)LCrumbPictures$Trees;" } : Jvm.MethodName) "CrumbPictures") ∈ lw_tbl := lw_at lw_m5 196 rfl
theorem q1265 : (Jvm.Cond.methodLink "CrumbPictures" (288 : Nat) ({ cls := "CrumbPictures$Trees", name := "fromAbove", desc := "()I" } : Jvm.MethodName)) ∈ lw_all := lw_g (lw_at lw_m5 200 rfl) rfl
theorem q1286 : (Jvm.Cond.methodLink "CrumbPictures" (291 : Nat) ({ cls := "CrumbPictures$Trees", name := "fromBelow", desc := "()I" } : Jvm.MethodName)) ∈ lw_all := lw_g (lw_at lw_m5 221 rfl) rfl
theorem q1294 : (Jvm.Cond.methodLink "CrumbPictures" (330 : Nat) ({ cls := "CrumbPictures", name := "lengthWithout", desc := "(I)I" } : Jvm.MethodName)) ∈ lw_all := lw_g (lw_at lw_m5 229 rfl) rfl
theorem q1295 : (Jvm.Cond.privateMethod ({ cls := "CrumbPictures", name := "lengthWithout", desc := "(I)I" } : Jvm.MethodName)) ∈ lw_tbl := lw_at lw_m5 230 rfl
theorem q1296 : (Jvm.Cond.instanceMethod ({ cls := "CrumbPictures", name := "lengthWithout", desc := "(I)I" } : Jvm.MethodName)) ∈ lw_all := lw_g (lw_at lw_m5 231 rfl) rfl
theorem q1297 : (Jvm.Cond.code ({ cls := "CrumbPictures", name := "lengthWithout", desc := "(I)I" } : Jvm.MethodName) prog_1_method_75_code (2 : Nat) (Option.some Jvm.ClassFile.FieldType.int)) ∈ lw_all := lw_g (lw_at lw_m5 232 rfl) rfl
theorem q1298 : (Jvm.Cond.methodLink "CrumbPictures" (277 : Nat) ({ cls := "CrumbPictures", name := "planesTold", desc := "(I)I" } : Jvm.MethodName)) ∈ lw_all := lw_g (lw_at lw_m5 233 rfl) rfl
theorem q1299 : (Jvm.Cond.privateMethod ({ cls := "CrumbPictures", name := "planesTold", desc := "(I)I" } : Jvm.MethodName)) ∈ lw_tbl := lw_at lw_m5 234 rfl
theorem q1300 : (Jvm.Cond.instanceMethod ({ cls := "CrumbPictures", name := "planesTold", desc := "(I)I" } : Jvm.MethodName)) ∈ lw_all := lw_g (lw_at lw_m5 235 rfl) rfl
theorem q1301 : (Jvm.Cond.code ({ cls := "CrumbPictures", name := "planesTold", desc := "(I)I" } : Jvm.MethodName) prog_1_method_60_code (5 : Nat) (Option.some Jvm.ClassFile.FieldType.int)) ∈ lw_all := lw_g (lw_at lw_m5 236 rfl) rfl
theorem q1302 : (Jvm.Cond.methodLink "CrumbPictures" (274 : Nat) ({ cls := "CrumbPictures", name := "thresholdTold", desc := "(I)I" } : Jvm.MethodName)) ∈ lw_all := lw_g (lw_at lw_m5 237 rfl) rfl
theorem q1303 : (Jvm.Cond.privateMethod ({ cls := "CrumbPictures", name := "thresholdTold", desc := "(I)I" } : Jvm.MethodName)) ∈ lw_tbl := lw_at lw_m5 238 rfl
theorem q1304 : (Jvm.Cond.instanceMethod ({ cls := "CrumbPictures", name := "thresholdTold", desc := "(I)I" } : Jvm.MethodName)) ∈ lw_all := lw_g (lw_at lw_m5 239 rfl) rfl
theorem q1305 : (Jvm.Cond.code ({ cls := "CrumbPictures", name := "thresholdTold", desc := "(I)I" } : Jvm.MethodName) prog_1_method_58_code (3 : Nat) (Option.some Jvm.ClassFile.FieldType.int)) ∈ lw_all := lw_g (lw_at lw_m6 0 rfl) rfl
theorem q1306 : (Jvm.Cond.methodLink "CrumbPictures" (360 : Nat) ({ cls := "CrumbPictures", name := "mixCode", desc := "()V" } : Jvm.MethodName)) ∈ lw_all := lw_g (lw_at lw_m6 1 rfl) rfl
theorem q1307 : (Jvm.Cond.privateMethod ({ cls := "CrumbPictures", name := "mixCode", desc := "()V" } : Jvm.MethodName)) ∈ lw_tbl := lw_at lw_m6 2 rfl
theorem q1308 : (Jvm.Cond.instanceMethod ({ cls := "CrumbPictures", name := "mixCode", desc := "()V" } : Jvm.MethodName)) ∈ lw_all := lw_g (lw_at lw_m6 3 rfl) rfl
theorem q1309 : (Jvm.Cond.code ({ cls := "CrumbPictures", name := "mixCode", desc := "()V" } : Jvm.MethodName) prog_1_method_83_code (3 : Nat) (Option.none : Option Jvm.ClassFile.FieldType)) ∈ lw_all := lw_g (lw_at lw_m6 4 rfl) rfl
theorem q1310 : (Jvm.Cond.methodLink "CrumbPictures" (317 : Nat) ({ cls := "CrumbPictures$Code", name := "read", desc := "()[I" } : Jvm.MethodName)) ∈ lw_all := lw_g (lw_at lw_m6 5 rfl) rfl
theorem q1330 : (Jvm.Cond.methodLink "CrumbPictures" (327 : Nat) ({ cls := "CrumbPictures", name := "lengthWith", desc := "(I)I" } : Jvm.MethodName)) ∈ lw_all := lw_g (lw_at lw_m6 25 rfl) rfl
theorem q1331 : (Jvm.Cond.privateMethod ({ cls := "CrumbPictures", name := "lengthWith", desc := "(I)I" } : Jvm.MethodName)) ∈ lw_tbl := lw_at lw_m6 26 rfl
theorem q1332 : (Jvm.Cond.instanceMethod ({ cls := "CrumbPictures", name := "lengthWith", desc := "(I)I" } : Jvm.MethodName)) ∈ lw_all := lw_g (lw_at lw_m6 27 rfl) rfl
theorem q1333 : (Jvm.Cond.code ({ cls := "CrumbPictures", name := "lengthWith", desc := "(I)I" } : Jvm.MethodName) prog_1_method_73_code (2 : Nat) (Option.some Jvm.ClassFile.FieldType.int)) ∈ lw_all := lw_g (lw_at lw_m6 28 rfl) rfl
theorem q1334 : (Jvm.Cond.methodLink "CrumbPictures" (363 : Nat) ({ cls := "CrumbPictures", name := "mixIf", desc := "(Z)V" } : Jvm.MethodName)) ∈ lw_all := lw_g (lw_at lw_m6 29 rfl) rfl
theorem q1335 : (Jvm.Cond.privateMethod ({ cls := "CrumbPictures", name := "mixIf", desc := "(Z)V" } : Jvm.MethodName)) ∈ lw_tbl := lw_at lw_m6 30 rfl
theorem q1336 : (Jvm.Cond.instanceMethod ({ cls := "CrumbPictures", name := "mixIf", desc := "(Z)V" } : Jvm.MethodName)) ∈ lw_all := lw_g (lw_at lw_m6 31 rfl) rfl
theorem q1337 : (Jvm.Cond.code ({ cls := "CrumbPictures", name := "mixIf", desc := "(Z)V" } : Jvm.MethodName) prog_1_method_80_code (2 : Nat) (Option.none : Option Jvm.ClassFile.FieldType)) ∈ lw_all := lw_g (lw_at lw_m6 32 rfl) rfl
theorem q1338 : (Jvm.Cond.methodLink "CrumbPictures" (366 : Nat) ({ cls := "java/lang/Double", name := "doubleToLongBits", desc := "(D)J" } : Jvm.MethodName)) ∈ lw_all := lw_g (lw_at lw_m6 33 rfl) rfl
theorem q1348 : (Jvm.Cond.methodLink "CrumbPictures" (372 : Nat) ({ cls := "java/lang/StringBuilder", name := "charAt", desc := "(I)C" } : Jvm.MethodName)) ∈ lw_all := lw_g (lw_at lw_m6 43 rfl) rfl
theorem q1357 : (Jvm.Cond.instanceMethod ({ cls := "CrumbPictures", name := "setShade", desc := "(III)I" } : Jvm.MethodName)) ∈ lw_all := lw_g (lw_at lw_m6 52 rfl) rfl
theorem q1358 : (Jvm.Cond.selects "CrumbPictures" ({ cls := "CrumbPictures", name := "setShade", desc := "(III)I" } : Jvm.MethodName) ({ cls := "CrumbPictures", name := "setShade", desc := "(III)I" } : Jvm.MethodName)) ∈ lw_all := lw_g (lw_at lw_m6 53 rfl) rfl
theorem q1359 : (Jvm.Cond.code ({ cls := "CrumbPictures", name := "setShade", desc := "(III)I" } : Jvm.MethodName) prog_1_method_16_code (5 : Nat) (Option.some Jvm.ClassFile.FieldType.int)) ∈ lw_all := lw_g (lw_at lw_m6 54 rfl) rfl
theorem q1360 : (Jvm.Cond.methodLink "CrumbPictures" (121 : Nat) ({ cls := "CrumbPictures", name := "cellBy", desc := "(II)I" } : Jvm.MethodName)) ∈ lw_all := lw_g (lw_at lw_m6 55 rfl) rfl
theorem q1361 : (Jvm.Cond.static ({ cls := "CrumbPictures", name := "cellBy", desc := "(II)I" } : Jvm.MethodName)) ∈ lw_all := lw_g (lw_at lw_m6 56 rfl) rfl
theorem q1362 : (Jvm.Cond.code ({ cls := "CrumbPictures", name := "cellBy", desc := "(II)I" } : Jvm.MethodName) prog_1_method_11_code (2 : Nat) (Option.some Jvm.ClassFile.FieldType.int)) ∈ lw_all := lw_g (lw_at lw_m6 57 rfl) rfl
theorem q1363 : (Jvm.Cond.methodLink "CrumbPictures" (99 : Nat) ({ cls := "CrumbPictures", name := "in", desc := "(III)Z" } : Jvm.MethodName)) ∈ lw_all := lw_g (lw_at lw_m6 58 rfl) rfl
theorem q1364 : (Jvm.Cond.methodLink "CrumbPictures" (103 : Nat) ({ cls := "CrumbPictures", name := "needIndex", desc := "(Z)V" } : Jvm.MethodName)) ∈ lw_all := lw_g (lw_at lw_m6 59 rfl) rfl
theorem q1365 : (Jvm.Cond.static ({ cls := "CrumbPictures", name := "needIndex", desc := "(Z)V" } : Jvm.MethodName)) ∈ lw_all := lw_g (lw_at lw_m6 60 rfl) rfl
theorem q1366 : (Jvm.Cond.code ({ cls := "CrumbPictures", name := "needIndex", desc := "(Z)V" } : Jvm.MethodName) prog_1_method_9_code (1 : Nat) (Option.none : Option Jvm.ClassFile.FieldType)) ∈ lw_all := lw_g (lw_at lw_m6 61 rfl) rfl
theorem q1367 : (Jvm.Cond.classLink "CrumbPictures" (93 : Nat) "java/lang/IndexOutOfBoundsException") ∈ lw_all := lw_g (lw_at lw_m6 62 rfl) rfl
theorem q1368 : (Jvm.Cond.methodLink "CrumbPictures" (95 : Nat) ({ cls := "java/lang/IndexOutOfBoundsException", name := "<init>", desc := "()V" } : Jvm.MethodName)) ∈ lw_all := lw_g (lw_at lw_m6 63 rfl) rfl
theorem q1372 : (Jvm.Cond.methodLink "CrumbPictures" (124 : Nat) ({ cls := "CrumbPictures", name := "needShade", desc := "(I)V" } : Jvm.MethodName)) ∈ lw_all := lw_g (lw_at lw_m6 67 rfl) rfl
theorem q1373 : (Jvm.Cond.static ({ cls := "CrumbPictures", name := "needShade", desc := "(I)V" } : Jvm.MethodName)) ∈ lw_all := lw_g (lw_at lw_m6 68 rfl) rfl
theorem q1374 : (Jvm.Cond.code ({ cls := "CrumbPictures", name := "needShade", desc := "(I)V" } : Jvm.MethodName) prog_1_method_12_code (1 : Nat) (Option.none : Option Jvm.ClassFile.FieldType)) ∈ lw_all := lw_g (lw_at lw_m6 69 rfl) rfl
theorem q1375 : (Jvm.Cond.methodLink "CrumbPictures" (107 : Nat) ({ cls := "CrumbPictures", name := "need", desc := "(Z)V" } : Jvm.MethodName)) ∈ lw_all := lw_g (lw_at lw_m6 70 rfl) rfl
theorem q1376 : (Jvm.Cond.static ({ cls := "CrumbPictures", name := "need", desc := "(Z)V" } : Jvm.MethodName)) ∈ lw_all := lw_g (lw_at lw_m6 71 rfl) rfl
theorem q1377 : (Jvm.Cond.code ({ cls := "CrumbPictures", name := "need", desc := "(Z)V" } : Jvm.MethodName) prog_1_method_8_code (1 : Nat) (Option.none : Option Jvm.ClassFile.FieldType)) ∈ lw_all := lw_g (lw_at lw_m6 72 rfl) rfl
theorem q1378 : (Jvm.Cond.classLink "CrumbPictures" (90 : Nat) "java/lang/IllegalArgumentException") ∈ lw_all := lw_g (lw_at lw_m6 73 rfl) rfl
theorem q1379 : (Jvm.Cond.methodLink "CrumbPictures" (92 : Nat) ({ cls := "java/lang/IllegalArgumentException", name := "<init>", desc := "()V" } : Jvm.MethodName)) ∈ lw_all := lw_g (lw_at lw_m6 74 rfl) rfl
theorem q1383 : (Jvm.Cond.methodLink "CrumbPictures" (130 : Nat) ({ cls := "CrumbPictures$Sheet", name := "setShade", desc := "(II)I" } : Jvm.MethodName)) ∈ lw_all := lw_g (lw_at lw_m6 78 rfl) rfl
theorem q1389 : (Jvm.Cond.instanceMethod ({ cls := "CrumbPictures", name := "fillRow", desc := "(III)I" } : Jvm.MethodName)) ∈ lw_all := lw_g (lw_at lw_m6 84 rfl) rfl
theorem q1390 : (Jvm.Cond.selects "CrumbPictures" ({ cls := "CrumbPictures", name := "fillRow", desc := "(III)I" } : Jvm.MethodName) ({ cls := "CrumbPictures", name := "fillRow", desc := "(III)I" } : Jvm.MethodName)) ∈ lw_all := lw_g (lw_at lw_m6 85 rfl) rfl
theorem q1391 : (Jvm.Cond.code ({ cls := "CrumbPictures", name := "fillRow", desc := "(III)I" } : Jvm.MethodName) prog_1_method_17_code (4 : Nat) (Option.some Jvm.ClassFile.FieldType.int)) ∈ lw_all := lw_g (lw_at lw_m6 86 rfl) rfl
theorem q1392 : (Jvm.Cond.methodLink "CrumbPictures" (133 : Nat) ({ cls := "CrumbPictures", name := "needState", desc := "(Z)V" } : Jvm.MethodName)) ∈ lw_all := lw_g (lw_at lw_m6 87 rfl) rfl
theorem q1393 : (Jvm.Cond.static ({ cls := "CrumbPictures", name := "needState", desc := "(Z)V" } : Jvm.MethodName)) ∈ lw_all := lw_g (lw_at lw_m6 88 rfl) rfl
theorem q1394 : (Jvm.Cond.code ({ cls := "CrumbPictures", name := "needState", desc := "(Z)V" } : Jvm.MethodName) prog_1_method_10_code (1 : Nat) (Option.none : Option Jvm.ClassFile.FieldType)) ∈ lw_all := lw_g (lw_at lw_m6 89 rfl) rfl
theorem q1395 : (Jvm.Cond.classLink "CrumbPictures" (96 : Nat) "java/lang/IllegalStateException") ∈ lw_all := lw_g (lw_at lw_m6 90 rfl) rfl
theorem q1404 : (Jvm.Cond.methodLink "CrumbPictures" (98 : Nat) ({ cls := "java/lang/IllegalStateException", name := "<init>", desc := "()V" } : Jvm.MethodName)) ∈ lw_all := lw_g (lw_at lw_m6 99 rfl) rfl
theorem q1410 : (Jvm.Cond.methodLink "CrumbPictures" (136 : Nat) ({ cls := "CrumbPictures$Sheet", name := "fill", desc := "(III)I" } : Jvm.MethodName)) ∈ lw_all := lw_g (lw_at lw_m6 105 rfl) rfl
theorem q1418 : (Jvm.Cond.instanceMethod ({ cls := "CrumbPictures", name := "setPart", desc := "(III)I" } : Jvm.MethodName)) ∈ lw_all := lw_g (lw_at lw_m6 113 rfl) rfl
theorem q1419 : (Jvm.Cond.selects "CrumbPictures" ({ cls := "CrumbPictures", name := "setPart", desc := "(III)I" } : Jvm.MethodName) ({ cls := "CrumbPictures", name := "setPart", desc := "(III)I" } : Jvm.MethodName)) ∈ lw_all := lw_g (lw_at lw_m6 114 rfl) rfl
theorem q1420 : (Jvm.Cond.code ({ cls := "CrumbPictures", name := "setPart", desc := "(III)I" } : Jvm.MethodName) prog_1_method_19_code (5 : Nat) (Option.some Jvm.ClassFile.FieldType.int)) ∈ lw_all := lw_g (lw_at lw_m6 115 rfl) rfl
theorem q1421 : (Jvm.Cond.methodLink "CrumbPictures" (153 : Nat) ({ cls := "CrumbPictures", name := "canSet", desc := "(II)Z" } : Jvm.MethodName)) ∈ lw_all := lw_g (lw_at lw_m6 116 rfl) rfl
theorem q1422 : (Jvm.Cond.privateMethod ({ cls := "CrumbPictures", name := "canSet", desc := "(II)Z" } : Jvm.MethodName)) ∈ lw_tbl := lw_at lw_m6 117 rfl
theorem q1423 : (Jvm.Cond.instanceMethod ({ cls := "CrumbPictures", name := "canSet", desc := "(II)Z" } : Jvm.MethodName)) ∈ lw_all := lw_g (lw_at lw_m6 118 rfl) rfl
theorem q1424 : (Jvm.Cond.code ({ cls := "CrumbPictures", name := "canSet", desc := "(II)Z" } : Jvm.MethodName) prog_1_method_18_code (8 : Nat) (Option.some Jvm.ClassFile.FieldType.boolean)) ∈ lw_all := lw_g (lw_at lw_m6 119 rfl) rfl
theorem q1425 : (Jvm.Cond.methodLink "CrumbPictures" (144 : Nat) ({ cls := "java/lang/System", name := "arraycopy", desc := "(Ljava/lang/Object;ILjava/lang/Object;II)V" } : Jvm.MethodName)) ∈ lw_all := lw_g (lw_at lw_m6 120 rfl) rfl
theorem q1426 : (Jvm.Cond.methodLink "CrumbPictures" (157 : Nat) ({ cls := "CrumbPictures$Sheet", name := "take", desc := "([I)I" } : Jvm.MethodName)) ∈ lw_all := lw_g (lw_at lw_m6 121 rfl) rfl
theorem q1431 : (Jvm.Cond.instanceMethod ({ cls := "CrumbPictures", name := "dropCrumbs", desc := "(I)I" } : Jvm.MethodName)) ∈ lw_all := lw_g (lw_at lw_m6 126 rfl) rfl
theorem q1432 : (Jvm.Cond.selects "CrumbPictures" ({ cls := "CrumbPictures", name := "dropCrumbs", desc := "(I)I" } : Jvm.MethodName) ({ cls := "CrumbPictures", name := "dropCrumbs", desc := "(I)I" } : Jvm.MethodName)) ∈ lw_all := lw_g (lw_at lw_m6 127 rfl) rfl
theorem q1433 : (Jvm.Cond.code ({ cls := "CrumbPictures", name := "dropCrumbs", desc := "(I)I" } : Jvm.MethodName) prog_1_method_23_code (3 : Nat) (Option.some Jvm.ClassFile.FieldType.int)) ∈ lw_all := lw_g (lw_at lw_m6 128 rfl) rfl
theorem q1438 : (Jvm.Cond.instanceMethod ({ cls := "CrumbPictures", name := "setLevels", desc := "(I)I" } : Jvm.MethodName)) ∈ lw_all := lw_g (lw_at lw_m6 133 rfl) rfl
theorem q1439 : (Jvm.Cond.selects "CrumbPictures" ({ cls := "CrumbPictures", name := "setLevels", desc := "(I)I" } : Jvm.MethodName) ({ cls := "CrumbPictures", name := "setLevels", desc := "(I)I" } : Jvm.MethodName)) ∈ lw_all := lw_g (lw_at lw_m6 134 rfl) rfl
theorem q1440 : (Jvm.Cond.code ({ cls := "CrumbPictures", name := "setLevels", desc := "(I)I" } : Jvm.MethodName) prog_1_method_24_code (2 : Nat) (Option.some Jvm.ClassFile.FieldType.int)) ∈ lw_all := lw_g (lw_at lw_m6 135 rfl) rfl
theorem q1441 : (Jvm.Cond.methodLink "CrumbPictures" (189 : Nat) ({ cls := "CrumbPictures", name := "needLevels", desc := "(I)V" } : Jvm.MethodName)) ∈ lw_all := lw_g (lw_at lw_m6 136 rfl) rfl
theorem q1442 : (Jvm.Cond.static ({ cls := "CrumbPictures", name := "needLevels", desc := "(I)V" } : Jvm.MethodName)) ∈ lw_all := lw_g (lw_at lw_m6 137 rfl) rfl
theorem q1443 : (Jvm.Cond.code ({ cls := "CrumbPictures", name := "needLevels", desc := "(I)V" } : Jvm.MethodName) prog_1_method_13_code (1 : Nat) (Option.none : Option Jvm.ClassFile.FieldType)) ∈ lw_all := lw_g (lw_at lw_m6 138 rfl) rfl
theorem q1444 : (Jvm.Cond.methodLink "CrumbPictures" (192 : Nat) ({ cls := "CrumbPictures$Sheet", name := "setLevels", desc := "(I)I" } : Jvm.MethodName)) ∈ lw_all := lw_g (lw_at lw_m6 139 rfl) rfl
theorem q1452 : (Jvm.Cond.instanceMethod ({ cls := "CrumbPictures", name := "append", desc := "(I)I" } : Jvm.MethodName)) ∈ lw_all := lw_g (lw_at lw_m6 147 rfl) rfl
theorem q1453 : (Jvm.Cond.selects "CrumbPictures" ({ cls := "CrumbPictures", name := "append", desc := "(I)I" } : Jvm.MethodName) ({ cls := "CrumbPictures", name := "append", desc := "(I)I" } : Jvm.MethodName)) ∈ lw_all := lw_g (lw_at lw_m6 148 rfl) rfl
theorem q1454 : (Jvm.Cond.code ({ cls := "CrumbPictures", name := "append", desc := "(I)I" } : Jvm.MethodName) prog_1_method_28_code (2 : Nat) (Option.some Jvm.ClassFile.FieldType.int)) ∈ lw_all := lw_g (lw_at lw_m6 149 rfl) rfl
theorem q1455 : (Jvm.Cond.methodLink "CrumbPictures" (205 : Nat) ({ cls := "java/lang/StringBuilder", name := "append", desc := "(C)Ljava/lang/StringBuilder;" } : Jvm.MethodName)) ∈ lw_all := lw_g (lw_at lw_m6 150 rfl) rfl
theorem q1476 : (Jvm.Cond.instanceMethod ({ cls := "CrumbPictures", name := "work", desc := "()I" } : Jvm.MethodName)) ∈ lw_all := lw_g (lw_at lw_m6 171 rfl) rfl
theorem q1477 : (Jvm.Cond.selects "CrumbPictures" ({ cls := "CrumbPictures", name := "work", desc := "()I" } : Jvm.MethodName) ({ cls := "CrumbPictures", name := "work", desc := "()I" } : Jvm.MethodName)) ∈ lw_all := lw_g (lw_at lw_m6 172 rfl) rfl
theorem q1478 : (Jvm.Cond.code ({ cls := "CrumbPictures", name := "work", desc := "()I" } : Jvm.MethodName) prog_1_method_33_code (4 : Nat) (Option.some Jvm.ClassFile.FieldType.int)) ∈ lw_all := lw_g (lw_at lw_m6 173 rfl) rfl
theorem q1479 : (Jvm.Cond.methodLink "CrumbPictures" (230 : Nat) ({ cls := "CrumbPictures", name := "whyNot", desc := "([II)I" } : Jvm.MethodName)) ∈ lw_all := lw_g (lw_at lw_m6 174 rfl) rfl
theorem q1480 : (Jvm.Cond.privateMethod ({ cls := "CrumbPictures", name := "whyNot", desc := "([II)I" } : Jvm.MethodName)) ∈ lw_tbl := lw_at lw_m6 175 rfl
theorem q1481 : (Jvm.Cond.instanceMethod ({ cls := "CrumbPictures", name := "whyNot", desc := "([II)I" } : Jvm.MethodName)) ∈ lw_all := lw_g (lw_at lw_m6 176 rfl) rfl
theorem q1482 : (Jvm.Cond.code ({ cls := "CrumbPictures", name := "whyNot", desc := "([II)I" } : Jvm.MethodName) prog_1_method_31_code (3 : Nat) (Option.some Jvm.ClassFile.FieldType.int)) ∈ lw_all := lw_g (lw_at lw_m6 177 rfl) rfl
theorem q1483 : (Jvm.Cond.methodLink "CrumbPictures" (234 : Nat) ({ cls := "CrumbPictures", name := "act", desc := "([II)V" } : Jvm.MethodName)) ∈ lw_all := lw_g (lw_at lw_m6 178 rfl) rfl
theorem q1484 : (Jvm.Cond.privateMethod ({ cls := "CrumbPictures", name := "act", desc := "([II)V" } : Jvm.MethodName)) ∈ lw_tbl := lw_at lw_m6 179 rfl
theorem q1485 : (Jvm.Cond.instanceMethod ({ cls := "CrumbPictures", name := "act", desc := "([II)V" } : Jvm.MethodName)) ∈ lw_all := lw_g (lw_at lw_m6 180 rfl) rfl
theorem q1486 : (Jvm.Cond.code ({ cls := "CrumbPictures", name := "act", desc := "([II)V" } : Jvm.MethodName) prog_1_method_32_code (3 : Nat) (Option.none : Option Jvm.ClassFile.FieldType)) ∈ lw_all := lw_g (lw_at lw_m6 181 rfl) rfl
theorem q1491 : (Jvm.Cond.instanceMethod ({ cls := "CrumbPictures", name := "stoppedPart", desc := "()I" } : Jvm.MethodName)) ∈ lw_all := lw_g (lw_at lw_m6 186 rfl) rfl
theorem q1492 : (Jvm.Cond.selects "CrumbPictures" ({ cls := "CrumbPictures", name := "stoppedPart", desc := "()I" } : Jvm.MethodName) ({ cls := "CrumbPictures", name := "stoppedPart", desc := "()I" } : Jvm.MethodName)) ∈ lw_all := lw_g (lw_at lw_m6 187 rfl) rfl
theorem q1493 : (Jvm.Cond.code ({ cls := "CrumbPictures", name := "stoppedPart", desc := "()I" } : Jvm.MethodName) prog_1_method_35_code (1 : Nat) (Option.some Jvm.ClassFile.FieldType.int)) ∈ lw_all := lw_g (lw_at lw_m6 188 rfl) rfl
theorem q1498 : (Jvm.Cond.instanceMethod ({ cls := "CrumbPictures", name := "whyStopped", desc := "()I" } : Jvm.MethodName)) ∈ lw_all := lw_g (lw_at lw_m6 193 rfl) rfl
theorem q1499 : (Jvm.Cond.selects "CrumbPictures" ({ cls := "CrumbPictures", name := "whyStopped", desc := "()I" } : Jvm.MethodName) ({ cls := "CrumbPictures", name := "whyStopped", desc := "()I" } : Jvm.MethodName)) ∈ lw_all := lw_g (lw_at lw_m6 194 rfl) rfl
theorem q1500 : (Jvm.Cond.code ({ cls := "CrumbPictures", name := "whyStopped", desc := "()I" } : Jvm.MethodName) prog_1_method_36_code (1 : Nat) (Option.some Jvm.ClassFile.FieldType.int)) ∈ lw_all := lw_g (lw_at lw_m6 195 rfl) rfl
theorem q1505 : (Jvm.Cond.instanceMethod ({ cls := "CrumbPictures", name := "undo", desc := "()I" } : Jvm.MethodName)) ∈ lw_all := lw_g (lw_at lw_m6 200 rfl) rfl
theorem q1506 : (Jvm.Cond.selects "CrumbPictures" ({ cls := "CrumbPictures", name := "undo", desc := "()I" } : Jvm.MethodName) ({ cls := "CrumbPictures", name := "undo", desc := "()I" } : Jvm.MethodName)) ∈ lw_all := lw_g (lw_at lw_m6 201 rfl) rfl
theorem q1507 : (Jvm.Cond.code ({ cls := "CrumbPictures", name := "undo", desc := "()I" } : Jvm.MethodName) prog_1_method_37_code (1 : Nat) (Option.some Jvm.ClassFile.FieldType.int)) ∈ lw_all := lw_g (lw_at lw_m6 202 rfl) rfl
theorem q1508 : (Jvm.Cond.methodLink "CrumbPictures" (244 : Nat) ({ cls := "java/util/ArrayList", name := "isEmpty", desc := "()Z" } : Jvm.MethodName)) ∈ lw_all := lw_g (lw_at lw_m6 203 rfl) rfl
theorem q1516 : (Jvm.Cond.instanceMethod ({ cls := "CrumbPictures", name := "restore", desc := "()I" } : Jvm.MethodName)) ∈ lw_all := lw_g (lw_at lw_m6 211 rfl) rfl
theorem q1517 : (Jvm.Cond.selects "CrumbPictures" ({ cls := "CrumbPictures", name := "restore", desc := "()I" } : Jvm.MethodName) ({ cls := "CrumbPictures", name := "restore", desc := "()I" } : Jvm.MethodName)) ∈ lw_all := lw_g (lw_at lw_m6 212 rfl) rfl
theorem q1518 : (Jvm.Cond.code ({ cls := "CrumbPictures", name := "restore", desc := "()I" } : Jvm.MethodName) prog_1_method_39_code (1 : Nat) (Option.some Jvm.ClassFile.FieldType.int)) ∈ lw_all := lw_g (lw_at lw_m6 213 rfl) rfl
theorem q1523 : (Jvm.Cond.instanceMethod ({ cls := "CrumbPictures", name := "shade", desc := "(II)I" } : Jvm.MethodName)) ∈ lw_all := lw_g (lw_at lw_m6 218 rfl) rfl
theorem q1524 : (Jvm.Cond.selects "CrumbPictures" ({ cls := "CrumbPictures", name := "shade", desc := "(II)I" } : Jvm.MethodName) ({ cls := "CrumbPictures", name := "shade", desc := "(II)I" } : Jvm.MethodName)) ∈ lw_all := lw_g (lw_at lw_m6 219 rfl) rfl
theorem q1525 : (Jvm.Cond.code ({ cls := "CrumbPictures", name := "shade", desc := "(II)I" } : Jvm.MethodName) prog_1_method_41_code (3 : Nat) (Option.some Jvm.ClassFile.FieldType.int)) ∈ lw_all := lw_g (lw_at lw_m6 220 rfl) rfl
theorem q1530 : (Jvm.Cond.instanceMethod ({ cls := "CrumbPictures", name := "part", desc := "(II)I" } : Jvm.MethodName)) ∈ lw_all := lw_g (lw_at lw_m6 225 rfl) rfl
theorem q1531 : (Jvm.Cond.selects "CrumbPictures" ({ cls := "CrumbPictures", name := "part", desc := "(II)I" } : Jvm.MethodName) ({ cls := "CrumbPictures", name := "part", desc := "(II)I" } : Jvm.MethodName)) ∈ lw_all := lw_g (lw_at lw_m6 226 rfl) rfl
theorem q1532 : (Jvm.Cond.code ({ cls := "CrumbPictures", name := "part", desc := "(II)I" } : Jvm.MethodName) prog_1_method_44_code (4 : Nat) (Option.some Jvm.ClassFile.FieldType.int)) ∈ lw_all := lw_g (lw_at lw_m6 227 rfl) rfl
theorem q1537 : (Jvm.Cond.instanceMethod ({ cls := "CrumbPictures", name := "bandOf", desc := "(II)I" } : Jvm.MethodName)) ∈ lw_all := lw_g (lw_at lw_m6 232 rfl) rfl
theorem q1538 : (Jvm.Cond.selects "CrumbPictures" ({ cls := "CrumbPictures", name := "bandOf", desc := "(II)I" } : Jvm.MethodName) ({ cls := "CrumbPictures", name := "bandOf", desc := "(II)I" } : Jvm.MethodName)) ∈ lw_all := lw_g (lw_at lw_m6 233 rfl) rfl
theorem q1539 : (Jvm.Cond.code ({ cls := "CrumbPictures", name := "bandOf", desc := "(II)I" } : Jvm.MethodName) prog_1_method_45_code (3 : Nat) (Option.some Jvm.ClassFile.FieldType.int)) ∈ lw_all := lw_g (lw_at lw_m6 234 rfl) rfl
theorem q1544 : (Jvm.Cond.instanceMethod ({ cls := "CrumbPictures", name := "placeOf", desc := "(II)I" } : Jvm.MethodName)) ∈ lw_all := lw_g (lw_at lw_m6 239 rfl) rfl
theorem q1545 : (Jvm.Cond.selects "CrumbPictures" ({ cls := "CrumbPictures", name := "placeOf", desc := "(II)I" } : Jvm.MethodName) ({ cls := "CrumbPictures", name := "placeOf", desc := "(II)I" } : Jvm.MethodName)) ∈ lw_all := lw_g (lw_at lw_m7 0 rfl) rfl
theorem q1546 : (Jvm.Cond.code ({ cls := "CrumbPictures", name := "placeOf", desc := "(II)I" } : Jvm.MethodName) prog_1_method_46_code (3 : Nat) (Option.some Jvm.ClassFile.FieldType.int)) ∈ lw_all := lw_g (lw_at lw_m7 1 rfl) rfl
theorem q1551 : (Jvm.Cond.instanceMethod ({ cls := "CrumbPictures", name := "energy", desc := "(I)I" } : Jvm.MethodName)) ∈ lw_all := lw_g (lw_at lw_m7 6 rfl) rfl
theorem q1552 : (Jvm.Cond.selects "CrumbPictures" ({ cls := "CrumbPictures", name := "energy", desc := "(I)I" } : Jvm.MethodName) ({ cls := "CrumbPictures", name := "energy", desc := "(I)I" } : Jvm.MethodName)) ∈ lw_all := lw_g (lw_at lw_m7 7 rfl) rfl
theorem q1553 : (Jvm.Cond.code ({ cls := "CrumbPictures", name := "energy", desc := "(I)I" } : Jvm.MethodName) prog_1_method_48_code (2 : Nat) (Option.some Jvm.ClassFile.FieldType.int)) ∈ lw_all := lw_g (lw_at lw_m7 8 rfl) rfl
theorem q1558 : (Jvm.Cond.instanceMethod ({ cls := "CrumbPictures", name := "shadeBack", desc := "(II)I" } : Jvm.MethodName)) ∈ lw_all := lw_g (lw_at lw_m7 13 rfl) rfl
theorem q1559 : (Jvm.Cond.selects "CrumbPictures" ({ cls := "CrumbPictures", name := "shadeBack", desc := "(II)I" } : Jvm.MethodName) ({ cls := "CrumbPictures", name := "shadeBack", desc := "(II)I" } : Jvm.MethodName)) ∈ lw_all := lw_g (lw_at lw_m7 14 rfl) rfl
theorem q1560 : (Jvm.Cond.code ({ cls := "CrumbPictures", name := "shadeBack", desc := "(II)I" } : Jvm.MethodName) prog_1_method_49_code (4 : Nat) (Option.some Jvm.ClassFile.FieldType.int)) ∈ lw_all := lw_g (lw_at lw_m7 15 rfl) rfl
theorem q1565 : (Jvm.Cond.instanceMethod ({ cls := "CrumbPictures", name := "shadeByParts", desc := "(II)I" } : Jvm.MethodName)) ∈ lw_all := lw_g (lw_at lw_m7 20 rfl) rfl
theorem q1566 : (Jvm.Cond.selects "CrumbPictures" ({ cls := "CrumbPictures", name := "shadeByParts", desc := "(II)I" } : Jvm.MethodName) ({ cls := "CrumbPictures", name := "shadeByParts", desc := "(II)I" } : Jvm.MethodName)) ∈ lw_all := lw_g (lw_at lw_m7 21 rfl) rfl
theorem q1567 : (Jvm.Cond.code ({ cls := "CrumbPictures", name := "shadeByParts", desc := "(II)I" } : Jvm.MethodName) prog_1_method_51_code (3 : Nat) (Option.some Jvm.ClassFile.FieldType.int)) ∈ lw_all := lw_g (lw_at lw_m7 22 rfl) rfl
theorem q1572 : (Jvm.Cond.instanceMethod ({ cls := "CrumbPictures", name := "crumbs", desc := "(I)I" } : Jvm.MethodName)) ∈ lw_all := lw_g (lw_at lw_m7 27 rfl) rfl
theorem q1573 : (Jvm.Cond.selects "CrumbPictures" ({ cls := "CrumbPictures", name := "crumbs", desc := "(I)I" } : Jvm.MethodName) ({ cls := "CrumbPictures", name := "crumbs", desc := "(I)I" } : Jvm.MethodName)) ∈ lw_all := lw_g (lw_at lw_m7 28 rfl) rfl
theorem q1574 : (Jvm.Cond.code ({ cls := "CrumbPictures", name := "crumbs", desc := "(I)I" } : Jvm.MethodName) prog_1_method_52_code (2 : Nat) (Option.some Jvm.ClassFile.FieldType.int)) ∈ lw_all := lw_g (lw_at lw_m7 29 rfl) rfl
theorem q1579 : (Jvm.Cond.instanceMethod ({ cls := "CrumbPictures", name := "cost", desc := "(I)I" } : Jvm.MethodName)) ∈ lw_all := lw_g (lw_at lw_m7 34 rfl) rfl
theorem q1580 : (Jvm.Cond.selects "CrumbPictures" ({ cls := "CrumbPictures", name := "cost", desc := "(I)I" } : Jvm.MethodName) ({ cls := "CrumbPictures", name := "cost", desc := "(I)I" } : Jvm.MethodName)) ∈ lw_all := lw_g (lw_at lw_m7 35 rfl) rfl
theorem q1581 : (Jvm.Cond.code ({ cls := "CrumbPictures", name := "cost", desc := "(I)I" } : Jvm.MethodName) prog_1_method_55_code (2 : Nat) (Option.some Jvm.ClassFile.FieldType.int)) ∈ lw_all := lw_g (lw_at lw_m7 36 rfl) rfl
theorem q1586 : (Jvm.Cond.instanceMethod ({ cls := "CrumbPictures", name := "worst", desc := "(I)I" } : Jvm.MethodName)) ∈ lw_all := lw_g (lw_at lw_m7 41 rfl) rfl
theorem q1587 : (Jvm.Cond.selects "CrumbPictures" ({ cls := "CrumbPictures", name := "worst", desc := "(I)I" } : Jvm.MethodName) ({ cls := "CrumbPictures", name := "worst", desc := "(I)I" } : Jvm.MethodName)) ∈ lw_all := lw_g (lw_at lw_m7 42 rfl) rfl
theorem q1588 : (Jvm.Cond.code ({ cls := "CrumbPictures", name := "worst", desc := "(I)I" } : Jvm.MethodName) prog_1_method_57_code (2 : Nat) (Option.some Jvm.ClassFile.FieldType.int)) ∈ lw_all := lw_g (lw_at lw_m7 43 rfl) rfl
theorem q1593 : (Jvm.Cond.instanceMethod ({ cls := "CrumbPictures", name := "thresholdFor", desc := "(I)I" } : Jvm.MethodName)) ∈ lw_all := lw_g (lw_at lw_m7 48 rfl) rfl
theorem q1594 : (Jvm.Cond.selects "CrumbPictures" ({ cls := "CrumbPictures", name := "thresholdFor", desc := "(I)I" } : Jvm.MethodName) ({ cls := "CrumbPictures", name := "thresholdFor", desc := "(I)I" } : Jvm.MethodName)) ∈ lw_all := lw_g (lw_at lw_m7 49 rfl) rfl
theorem q1595 : (Jvm.Cond.code ({ cls := "CrumbPictures", name := "thresholdFor", desc := "(I)I" } : Jvm.MethodName) prog_1_method_59_code (2 : Nat) (Option.some Jvm.ClassFile.FieldType.int)) ∈ lw_all := lw_g (lw_at lw_m7 50 rfl) rfl
theorem q1600 : (Jvm.Cond.instanceMethod ({ cls := "CrumbPictures", name := "costOfPlanes", desc := "(I)I" } : Jvm.MethodName)) ∈ lw_all := lw_g (lw_at lw_m7 55 rfl) rfl
theorem q1601 : (Jvm.Cond.selects "CrumbPictures" ({ cls := "CrumbPictures", name := "costOfPlanes", desc := "(I)I" } : Jvm.MethodName) ({ cls := "CrumbPictures", name := "costOfPlanes", desc := "(I)I" } : Jvm.MethodName)) ∈ lw_all := lw_g (lw_at lw_m7 56 rfl) rfl
theorem q1602 : (Jvm.Cond.code ({ cls := "CrumbPictures", name := "costOfPlanes", desc := "(I)I" } : Jvm.MethodName) prog_1_method_61_code (2 : Nat) (Option.some Jvm.ClassFile.FieldType.int)) ∈ lw_all := lw_g (lw_at lw_m7 57 rfl) rfl
theorem q1607 : (Jvm.Cond.instanceMethod ({ cls := "CrumbPictures", name := "trees", desc := "(I)I" } : Jvm.MethodName)) ∈ lw_all := lw_g (lw_at lw_m7 62 rfl) rfl
theorem q1608 : (Jvm.Cond.selects "CrumbPictures" ({ cls := "CrumbPictures", name := "trees", desc := "(I)I" } : Jvm.MethodName) ({ cls := "CrumbPictures", name := "trees", desc := "(I)I" } : Jvm.MethodName)) ∈ lw_all := lw_g (lw_at lw_m7 63 rfl) rfl
theorem q1609 : (Jvm.Cond.code ({ cls := "CrumbPictures", name := "trees", desc := "(I)I" } : Jvm.MethodName) prog_1_method_63_code (2 : Nat) (Option.some Jvm.ClassFile.FieldType.int)) ∈ lw_all := lw_g (lw_at lw_m7 64 rfl) rfl
theorem q1614 : (Jvm.Cond.instanceMethod ({ cls := "CrumbPictures", name := "treesFromBelow", desc := "(I)I" } : Jvm.MethodName)) ∈ lw_all := lw_g (lw_at lw_m7 69 rfl) rfl
theorem q1615 : (Jvm.Cond.selects "CrumbPictures" ({ cls := "CrumbPictures", name := "treesFromBelow", desc := "(I)I" } : Jvm.MethodName) ({ cls := "CrumbPictures", name := "treesFromBelow", desc := "(I)I" } : Jvm.MethodName)) ∈ lw_all := lw_g (lw_at lw_m7 70 rfl) rfl
theorem q1616 : (Jvm.Cond.code ({ cls := "CrumbPictures", name := "treesFromBelow", desc := "(I)I" } : Jvm.MethodName) prog_1_method_64_code (2 : Nat) (Option.some Jvm.ClassFile.FieldType.int)) ∈ lw_all := lw_g (lw_at lw_m7 71 rfl) rfl
theorem q1621 : (Jvm.Cond.instanceMethod ({ cls := "CrumbPictures", name := "isTree", desc := "(III)Z" } : Jvm.MethodName)) ∈ lw_all := lw_g (lw_at lw_m7 76 rfl) rfl
theorem q1622 : (Jvm.Cond.selects "CrumbPictures" ({ cls := "CrumbPictures", name := "isTree", desc := "(III)Z" } : Jvm.MethodName) ({ cls := "CrumbPictures", name := "isTree", desc := "(III)Z" } : Jvm.MethodName)) ∈ lw_all := lw_g (lw_at lw_m7 77 rfl) rfl
theorem q1623 : (Jvm.Cond.code ({ cls := "CrumbPictures", name := "isTree", desc := "(III)Z" } : Jvm.MethodName) prog_1_method_65_code (6 : Nat) (Option.some Jvm.ClassFile.FieldType.boolean)) ∈ lw_all := lw_g (lw_at lw_m7 78 rfl) rfl
theorem q1624 : (Jvm.Cond.methodLink "CrumbPictures" (294 : Nat) ({ cls := "CrumbPictures$Trees", name := "isTree", desc := "(II)Z" } : Jvm.MethodName)) ∈ lw_all := lw_g (lw_at lw_m7 79 rfl) rfl
theorem q1629 : (Jvm.Cond.instanceMethod ({ cls := "CrumbPictures", name := "codeBit", desc := "(I)I" } : Jvm.MethodName)) ∈ lw_all := lw_g (lw_at lw_m7 84 rfl) rfl
theorem q1630 : (Jvm.Cond.selects "CrumbPictures" ({ cls := "CrumbPictures", name := "codeBit", desc := "(I)I" } : Jvm.MethodName) ({ cls := "CrumbPictures", name := "codeBit", desc := "(I)I" } : Jvm.MethodName)) ∈ lw_all := lw_g (lw_at lw_m7 85 rfl) rfl
theorem q1631 : (Jvm.Cond.code ({ cls := "CrumbPictures", name := "codeBit", desc := "(I)I" } : Jvm.MethodName) prog_1_method_68_code (3 : Nat) (Option.some Jvm.ClassFile.FieldType.int)) ∈ lw_all := lw_g (lw_at lw_m7 86 rfl) rfl
theorem q1632 : (Jvm.Cond.methodLink "CrumbPictures" (311 : Nat) ({ cls := "java/util/BitSet", name := "get", desc := "(I)Z" } : Jvm.MethodName)) ∈ lw_all := lw_g (lw_at lw_m7 87 rfl) rfl
theorem q1637 : (Jvm.Cond.instanceMethod ({ cls := "CrumbPictures", name := "partByCode", desc := "(I)I" } : Jvm.MethodName)) ∈ lw_all := lw_g (lw_at lw_m7 92 rfl) rfl
theorem q1638 : (Jvm.Cond.selects "CrumbPictures" ({ cls := "CrumbPictures", name := "partByCode", desc := "(I)I" } : Jvm.MethodName) ({ cls := "CrumbPictures", name := "partByCode", desc := "(I)I" } : Jvm.MethodName)) ∈ lw_all := lw_g (lw_at lw_m7 93 rfl) rfl
theorem q1639 : (Jvm.Cond.code ({ cls := "CrumbPictures", name := "partByCode", desc := "(I)I" } : Jvm.MethodName) prog_1_method_69_code (2 : Nat) (Option.some Jvm.ClassFile.FieldType.int)) ∈ lw_all := lw_g (lw_at lw_m7 94 rfl) rfl
theorem q1644 : (Jvm.Cond.instanceMethod ({ cls := "CrumbPictures", name := "partsChanged", desc := "(III)I" } : Jvm.MethodName)) ∈ lw_all := lw_g (lw_at lw_m7 99 rfl) rfl
theorem q1645 : (Jvm.Cond.selects "CrumbPictures" ({ cls := "CrumbPictures", name := "partsChanged", desc := "(III)I" } : Jvm.MethodName) ({ cls := "CrumbPictures", name := "partsChanged", desc := "(III)I" } : Jvm.MethodName)) ∈ lw_all := lw_g (lw_at lw_m7 100 rfl) rfl
theorem q1646 : (Jvm.Cond.code ({ cls := "CrumbPictures", name := "partsChanged", desc := "(III)I" } : Jvm.MethodName) prog_1_method_72_code (7 : Nat) (Option.some Jvm.ClassFile.FieldType.int)) ∈ lw_all := lw_g (lw_at lw_m7 101 rfl) rfl
theorem q1651 : (Jvm.Cond.instanceMethod ({ cls := "CrumbPictures", name := "codeLengthWith", desc := "(I)I" } : Jvm.MethodName)) ∈ lw_all := lw_g (lw_at lw_m7 106 rfl) rfl
theorem q1652 : (Jvm.Cond.selects "CrumbPictures" ({ cls := "CrumbPictures", name := "codeLengthWith", desc := "(I)I" } : Jvm.MethodName) ({ cls := "CrumbPictures", name := "codeLengthWith", desc := "(I)I" } : Jvm.MethodName)) ∈ lw_all := lw_g (lw_at lw_m7 107 rfl) rfl
theorem q1653 : (Jvm.Cond.code ({ cls := "CrumbPictures", name := "codeLengthWith", desc := "(I)I" } : Jvm.MethodName) prog_1_method_74_code (2 : Nat) (Option.some Jvm.ClassFile.FieldType.int)) ∈ lw_all := lw_g (lw_at lw_m7 108 rfl) rfl
theorem q1658 : (Jvm.Cond.instanceMethod ({ cls := "CrumbPictures", name := "codeLengthWithout", desc := "(I)I" } : Jvm.MethodName)) ∈ lw_all := lw_g (lw_at lw_m7 113 rfl) rfl
theorem q1659 : (Jvm.Cond.selects "CrumbPictures" ({ cls := "CrumbPictures", name := "codeLengthWithout", desc := "(I)I" } : Jvm.MethodName) ({ cls := "CrumbPictures", name := "codeLengthWithout", desc := "(I)I" } : Jvm.MethodName)) ∈ lw_all := lw_g (lw_at lw_m7 114 rfl) rfl
theorem q1660 : (Jvm.Cond.code ({ cls := "CrumbPictures", name := "codeLengthWithout", desc := "(I)I" } : Jvm.MethodName) prog_1_method_76_code (2 : Nat) (Option.some Jvm.ClassFile.FieldType.int)) ∈ lw_all := lw_g (lw_at lw_m7 115 rfl) rfl
theorem q2153 : (Jvm.Cond.castable "CrumbPictures" "java/lang/Object") ∈ lw_tbl := lw_at lw_m9 128 rfl
theorem in_X1 : ∀ w ∈ wsX10, w ∈ lw_all := lw_in wsX10 [507, 509, 511, 513, 515, 517, 519, 521, 523, 525, 527, 529] (by decide +kernel) (by decide +kernel)
/-! CrumbPictures$Sheet -/
set_option maxRecDepth 100000
def RX2 : String := "CrumbPictures$Sheet"
def TX2 : u_T := fun k => match k with
  | 0 => ("CrumbPictures$Sheet", "shades", "[I", true)
  | 1 => ("CrumbPictures$Sheet", "levels", "I", false)
  | 2 => ("CrumbPictures$Sheet", "stop", "I", false)
  | _ => ("CrumbPictures$Sheet", "why", "I", false)
def tyX2 : Nat → FieldType := fun k => match k with
  | 0 => .array .int
  | 1 => .int
  | 2 => .int
  | _ => .int
abbrev wsX20 : List Cond := u_ws RX2 TX2 4
theorem nmX2 : ∀ a, a < 4 → ∀ b, b < 4 → a ≠ b → (TX2 a).2.1 ≠ (TX2 b).2.1 := by decide +kernel
theorem tyX2_ok : ∀ k, k < 4 → parseFieldDescriptor (TX2 k).2.2.1 = some (tyX2 k) := by decide +kernel
abbrev cX2_init : ByteArray := prog_7_method_1_code
def yX2_init : MethodName := ⟨RX2, "<init>", "()V"⟩
def dkwX2_init_0 : List UInt8 := [42, 183, 0, 3, 42, 16, 64, 188, 10, 181, 0, 9, 42, 6, 181, 0, 15, 42, 2, 181, 0, 19, 177]
abbrev dktX2_init_0 : List UInt8 := dkwX2_init_0 ++ []
theorem dksX2_init_0 : cX2_init.data.toList.drop 0 = dktX2_init_0 := by decide +kernel
theorem dX2_init_0 : decode cX2_init 0 = .ok (.aload_n 0, 1) := dk_42 (dk_at dksX2_init_0 0 rfl rfl)
theorem dX2_init_1 : decode cX2_init 1 = .ok (.invokespecial 3, 3) := dk_183 0 3 (dk_at dksX2_init_0 1 rfl rfl)
theorem dX2_init_4 : decode cX2_init 4 = .ok (.aload_n 0, 1) := dk_42 (dk_at dksX2_init_0 4 rfl rfl)
theorem dX2_init_5 : decode cX2_init 5 = .ok (.bipush 64, 2) := dk_16 64 (dk_at dksX2_init_0 5 rfl rfl)
theorem dX2_init_7 : decode cX2_init 7 = .ok (.newarray .int, 2) := dk_188_10 (dk_at dksX2_init_0 7 rfl rfl)
theorem dX2_init_9 : decode cX2_init 9 = .ok (.putfield 9, 3) := dk_181 0 9 (dk_at dksX2_init_0 9 rfl rfl)
theorem dX2_init_12 : decode cX2_init 12 = .ok (.aload_n 0, 1) := dk_42 (dk_at dksX2_init_0 12 rfl rfl)
theorem dX2_init_13 : decode cX2_init 13 = .ok (.iconst 3, 1) := dk_6 (dk_at dksX2_init_0 13 rfl rfl)
theorem dX2_init_14 : decode cX2_init 14 = .ok (.putfield 15, 3) := dk_181 0 15 (dk_at dksX2_init_0 14 rfl rfl)
theorem dX2_init_17 : decode cX2_init 17 = .ok (.aload_n 0, 1) := dk_42 (dk_at dksX2_init_0 17 rfl rfl)
theorem dX2_init_18 : decode cX2_init 18 = .ok (.iconst (-1), 1) := dk_2 (dk_at dksX2_init_0 18 rfl rfl)
theorem dX2_init_19 : decode cX2_init 19 = .ok (.putfield 19, 3) := dk_181 0 19 (dk_at dksX2_init_0 19 rfl rfl)
theorem dX2_init_22 : decode cX2_init 22 = .ok (.return_, 1) := dk_177 (dk_at dksX2_init_0 22 rfl rfl)
abbrev cX2_become : ByteArray := prog_7_method_2_code
def yX2_become : MethodName := ⟨RX2, "become", "(LCrumbPictures$Sheet;)LCrumbPictures$Sheet;"⟩
def dkwX2_become_1 : List UInt8 := [43, 180, 0, 19, 181, 0, 19, 42, 43, 180, 0, 28, 181, 0, 28, 42, 176]
abbrev dktX2_become_1 : List UInt8 := dkwX2_become_1 ++ []
def dkwX2_become_0 : List UInt8 := [43, 180, 0, 9, 3, 42, 180, 0, 9, 3, 16, 64, 184, 0, 22, 42, 43, 180, 0, 15, 181, 0, 15, 42]
abbrev dktX2_become_0 : List UInt8 := dkwX2_become_0 ++ dktX2_become_1
theorem dksX2_become_0 : cX2_become.data.toList.drop 0 = dktX2_become_0 := by decide +kernel
theorem dksX2_become_1 : cX2_become.data.toList.drop 24 = dktX2_become_1 := dk_seg dksX2_become_0 24 rfl rfl
theorem dX2_become_0 : decode cX2_become 0 = .ok (.aload_n 1, 1) := dk_43 (dk_at dksX2_become_0 0 rfl rfl)
theorem dX2_become_1 : decode cX2_become 1 = .ok (.getfield 9, 3) := dk_180 0 9 (dk_at dksX2_become_0 1 rfl rfl)
theorem dX2_become_4 : decode cX2_become 4 = .ok (.iconst 0, 1) := dk_3 (dk_at dksX2_become_0 4 rfl rfl)
theorem dX2_become_5 : decode cX2_become 5 = .ok (.aload_n 0, 1) := dk_42 (dk_at dksX2_become_0 5 rfl rfl)
theorem dX2_become_6 : decode cX2_become 6 = .ok (.getfield 9, 3) := dk_180 0 9 (dk_at dksX2_become_0 6 rfl rfl)
theorem dX2_become_9 : decode cX2_become 9 = .ok (.iconst 0, 1) := dk_3 (dk_at dksX2_become_0 9 rfl rfl)
theorem dX2_become_10 : decode cX2_become 10 = .ok (.bipush 64, 2) := dk_16 64 (dk_at dksX2_become_0 10 rfl rfl)
theorem dX2_become_12 : decode cX2_become 12 = .ok (.invokestatic 22, 3) := dk_184 0 22 (dk_at dksX2_become_0 12 rfl rfl)
theorem dX2_become_15 : decode cX2_become 15 = .ok (.aload_n 0, 1) := dk_42 (dk_at dksX2_become_0 15 rfl rfl)
theorem dX2_become_16 : decode cX2_become 16 = .ok (.aload_n 1, 1) := dk_43 (dk_at dksX2_become_0 16 rfl rfl)
theorem dX2_become_17 : decode cX2_become 17 = .ok (.getfield 15, 3) := dk_180 0 15 (dk_at dksX2_become_0 17 rfl rfl)
theorem dX2_become_20 : decode cX2_become 20 = .ok (.putfield 15, 3) := dk_181 0 15 (dk_at dksX2_become_0 20 rfl rfl)
theorem dX2_become_23 : decode cX2_become 23 = .ok (.aload_n 0, 1) := dk_42 (dk_at dksX2_become_0 23 rfl rfl)
theorem dX2_become_24 : decode cX2_become 24 = .ok (.aload_n 1, 1) := dk_43 (dk_at dksX2_become_1 0 rfl rfl)
theorem dX2_become_25 : decode cX2_become 25 = .ok (.getfield 19, 3) := dk_180 0 19 (dk_at dksX2_become_1 1 rfl rfl)
theorem dX2_become_28 : decode cX2_become 28 = .ok (.putfield 19, 3) := dk_181 0 19 (dk_at dksX2_become_1 4 rfl rfl)
theorem dX2_become_31 : decode cX2_become 31 = .ok (.aload_n 0, 1) := dk_42 (dk_at dksX2_become_1 7 rfl rfl)
theorem dX2_become_32 : decode cX2_become 32 = .ok (.aload_n 1, 1) := dk_43 (dk_at dksX2_become_1 8 rfl rfl)
theorem dX2_become_33 : decode cX2_become 33 = .ok (.getfield 28, 3) := dk_180 0 28 (dk_at dksX2_become_1 9 rfl rfl)
theorem dX2_become_36 : decode cX2_become 36 = .ok (.putfield 28, 3) := dk_181 0 28 (dk_at dksX2_become_1 12 rfl rfl)
theorem dX2_become_39 : decode cX2_become 39 = .ok (.aload_n 0, 1) := dk_42 (dk_at dksX2_become_1 15 rfl rfl)
theorem dX2_become_40 : decode cX2_become 40 = .ok (.areturn, 1) := dk_176 (dk_at dksX2_become_1 16 rfl rfl)
abbrev cX2_turn : ByteArray := prog_7_method_7_code
def yX2_turn : MethodName := ⟨RX2, "turn", "([IZ)I"⟩
def dkwX2_turn_3 : List UInt8 := [172]
abbrev dktX2_turn_3 : List UInt8 := dkwX2_turn_3 ++ []
def dkwX2_turn_2 : List UInt8 := [16, 8, 16, 7, 21, 5, 100, 104, 21, 4, 96, 46, 79, 132, 3, 1, 167, 255, 196, 42, 43, 182, 0, 35]
abbrev dktX2_turn_2 : List UInt8 := dkwX2_turn_2 ++ dktX2_turn_3
def dkwX2_turn_1 : List UInt8 := [180, 0, 9, 28, 153, 0, 19, 16, 8, 21, 4, 104, 16, 8, 96, 4, 100, 21, 5, 100, 167, 0, 14]
abbrev dktX2_turn_1 : List UInt8 := dkwX2_turn_1 ++ dktX2_turn_2
def dkwX2_turn_0 : List UInt8 := [3, 62, 29, 16, 64, 162, 0, 60, 29, 16, 8, 108, 54, 4, 29, 16, 8, 112, 54, 5, 43, 29, 42]
abbrev dktX2_turn_0 : List UInt8 := dkwX2_turn_0 ++ dktX2_turn_1
theorem dksX2_turn_0 : cX2_turn.data.toList.drop 0 = dktX2_turn_0 := by decide +kernel
theorem dksX2_turn_1 : cX2_turn.data.toList.drop 23 = dktX2_turn_1 := dk_seg dksX2_turn_0 23 rfl rfl
theorem dksX2_turn_2 : cX2_turn.data.toList.drop 46 = dktX2_turn_2 := dk_seg dksX2_turn_1 23 rfl rfl
theorem dksX2_turn_3 : cX2_turn.data.toList.drop 70 = dktX2_turn_3 := dk_seg dksX2_turn_2 24 rfl rfl
theorem dX2_turn_0 : decode cX2_turn 0 = .ok (.iconst 0, 1) := dk_3 (dk_at dksX2_turn_0 0 rfl rfl)
theorem dX2_turn_1 : decode cX2_turn 1 = .ok (.istore_n 3, 1) := dk_62 (dk_at dksX2_turn_0 1 rfl rfl)
theorem dX2_turn_2 : decode cX2_turn 2 = .ok (.iload_n 3, 1) := dk_29 (dk_at dksX2_turn_0 2 rfl rfl)
theorem dX2_turn_3 : decode cX2_turn 3 = .ok (.bipush 64, 2) := dk_16 64 (dk_at dksX2_turn_0 3 rfl rfl)
theorem dX2_turn_5 : decode cX2_turn 5 = .ok (.if_icmp .ge 60, 3) := dk_162 0 60 (dk_at dksX2_turn_0 5 rfl rfl)
theorem dX2_turn_8 : decode cX2_turn 8 = .ok (.iload_n 3, 1) := dk_29 (dk_at dksX2_turn_0 8 rfl rfl)
theorem dX2_turn_9 : decode cX2_turn 9 = .ok (.bipush 8, 2) := dk_16 8 (dk_at dksX2_turn_0 9 rfl rfl)
theorem dX2_turn_11 : decode cX2_turn 11 = .ok (.idiv, 1) := dk_108 (dk_at dksX2_turn_0 11 rfl rfl)
theorem dX2_turn_12 : decode cX2_turn 12 = .ok (.istore 4, 2) := dk_54 4 (dk_at dksX2_turn_0 12 rfl rfl)
theorem dX2_turn_14 : decode cX2_turn 14 = .ok (.iload_n 3, 1) := dk_29 (dk_at dksX2_turn_0 14 rfl rfl)
theorem dX2_turn_15 : decode cX2_turn 15 = .ok (.bipush 8, 2) := dk_16 8 (dk_at dksX2_turn_0 15 rfl rfl)
theorem dX2_turn_17 : decode cX2_turn 17 = .ok (.irem, 1) := dk_112 (dk_at dksX2_turn_0 17 rfl rfl)
theorem dX2_turn_18 : decode cX2_turn 18 = .ok (.istore 5, 2) := dk_54 5 (dk_at dksX2_turn_0 18 rfl rfl)
theorem dX2_turn_20 : decode cX2_turn 20 = .ok (.aload_n 1, 1) := dk_43 (dk_at dksX2_turn_0 20 rfl rfl)
theorem dX2_turn_21 : decode cX2_turn 21 = .ok (.iload_n 3, 1) := dk_29 (dk_at dksX2_turn_0 21 rfl rfl)
theorem dX2_turn_22 : decode cX2_turn 22 = .ok (.aload_n 0, 1) := dk_42 (dk_at dksX2_turn_0 22 rfl rfl)
theorem dX2_turn_23 : decode cX2_turn 23 = .ok (.getfield 9, 3) := dk_180 0 9 (dk_at dksX2_turn_1 0 rfl rfl)
theorem dX2_turn_26 : decode cX2_turn 26 = .ok (.iload_n 2, 1) := dk_28 (dk_at dksX2_turn_1 3 rfl rfl)
theorem dX2_turn_27 : decode cX2_turn 27 = .ok (.ifCond .eq 19, 3) := dk_153 0 19 (dk_at dksX2_turn_1 4 rfl rfl)
theorem dX2_turn_30 : decode cX2_turn 30 = .ok (.bipush 8, 2) := dk_16 8 (dk_at dksX2_turn_1 7 rfl rfl)
theorem dX2_turn_32 : decode cX2_turn 32 = .ok (.iload 4, 2) := dk_21 4 (dk_at dksX2_turn_1 9 rfl rfl)
theorem dX2_turn_34 : decode cX2_turn 34 = .ok (.imul, 1) := dk_104 (dk_at dksX2_turn_1 11 rfl rfl)
theorem dX2_turn_35 : decode cX2_turn 35 = .ok (.bipush 8, 2) := dk_16 8 (dk_at dksX2_turn_1 12 rfl rfl)
theorem dX2_turn_37 : decode cX2_turn 37 = .ok (.iadd, 1) := dk_96 (dk_at dksX2_turn_1 14 rfl rfl)
theorem dX2_turn_38 : decode cX2_turn 38 = .ok (.iconst 1, 1) := dk_4 (dk_at dksX2_turn_1 15 rfl rfl)
theorem dX2_turn_39 : decode cX2_turn 39 = .ok (.isub, 1) := dk_100 (dk_at dksX2_turn_1 16 rfl rfl)
theorem dX2_turn_40 : decode cX2_turn 40 = .ok (.iload 5, 2) := dk_21 5 (dk_at dksX2_turn_1 17 rfl rfl)
theorem dX2_turn_42 : decode cX2_turn 42 = .ok (.isub, 1) := dk_100 (dk_at dksX2_turn_1 19 rfl rfl)
theorem dX2_turn_43 : decode cX2_turn 43 = .ok (.goto 14, 3) := dk_167 0 14 (dk_at dksX2_turn_1 20 rfl rfl)
theorem dX2_turn_46 : decode cX2_turn 46 = .ok (.bipush 8, 2) := dk_16 8 (dk_at dksX2_turn_2 0 rfl rfl)
theorem dX2_turn_48 : decode cX2_turn 48 = .ok (.bipush 7, 2) := dk_16 7 (dk_at dksX2_turn_2 2 rfl rfl)
theorem dX2_turn_50 : decode cX2_turn 50 = .ok (.iload 5, 2) := dk_21 5 (dk_at dksX2_turn_2 4 rfl rfl)
theorem dX2_turn_52 : decode cX2_turn 52 = .ok (.isub, 1) := dk_100 (dk_at dksX2_turn_2 6 rfl rfl)
theorem dX2_turn_53 : decode cX2_turn 53 = .ok (.imul, 1) := dk_104 (dk_at dksX2_turn_2 7 rfl rfl)
theorem dX2_turn_54 : decode cX2_turn 54 = .ok (.iload 4, 2) := dk_21 4 (dk_at dksX2_turn_2 8 rfl rfl)
theorem dX2_turn_56 : decode cX2_turn 56 = .ok (.iadd, 1) := dk_96 (dk_at dksX2_turn_2 10 rfl rfl)
theorem dX2_turn_57 : decode cX2_turn 57 = .ok (.iaload, 1) := dk_46 (dk_at dksX2_turn_2 11 rfl rfl)
theorem dX2_turn_58 : decode cX2_turn 58 = .ok (.iastore, 1) := dk_79 (dk_at dksX2_turn_2 12 rfl rfl)
theorem dX2_turn_59 : decode cX2_turn 59 = .ok (.iinc 3 1, 3) := dk_132 3 1 (dk_at dksX2_turn_2 13 rfl rfl)
theorem dX2_turn_62 : decode cX2_turn 62 = .ok (.goto (-60), 3) := dk_167 255 196 (dk_at dksX2_turn_2 16 rfl rfl)
theorem dX2_turn_65 : decode cX2_turn 65 = .ok (.aload_n 0, 1) := dk_42 (dk_at dksX2_turn_2 19 rfl rfl)
theorem dX2_turn_66 : decode cX2_turn 66 = .ok (.aload_n 1, 1) := dk_43 (dk_at dksX2_turn_2 20 rfl rfl)
theorem dX2_turn_67 : decode cX2_turn 67 = .ok (.invokevirtual 35, 3) := dk_182 0 35 (dk_at dksX2_turn_2 21 rfl rfl)
theorem dX2_turn_70 : decode cX2_turn 70 = .ok (.ireturn, 1) := dk_172 (dk_at dksX2_turn_3 0 rfl rfl)
abbrev cX2_take : ByteArray := prog_7_method_6_code
def yX2_take : MethodName := ⟨RX2, "take", "([I)I"⟩
def dkwX2_take_1 : List UInt8 := [160, 0, 7, 3, 167, 0, 4, 4, 96, 61, 132, 3, 1, 167, 255, 225, 28, 172]
abbrev dktX2_take_1 : List UInt8 := dkwX2_take_1 ++ []
def dkwX2_take_0 : List UInt8 := [3, 61, 3, 62, 29, 16, 64, 162, 0, 31, 28, 42, 29, 43, 29, 46, 182, 0, 31, 43, 29, 46]
abbrev dktX2_take_0 : List UInt8 := dkwX2_take_0 ++ dktX2_take_1
theorem dksX2_take_0 : cX2_take.data.toList.drop 0 = dktX2_take_0 := by decide +kernel
theorem dksX2_take_1 : cX2_take.data.toList.drop 22 = dktX2_take_1 := dk_seg dksX2_take_0 22 rfl rfl
theorem dX2_take_0 : decode cX2_take 0 = .ok (.iconst 0, 1) := dk_3 (dk_at dksX2_take_0 0 rfl rfl)
theorem dX2_take_1 : decode cX2_take 1 = .ok (.istore_n 2, 1) := dk_61 (dk_at dksX2_take_0 1 rfl rfl)
theorem dX2_take_2 : decode cX2_take 2 = .ok (.iconst 0, 1) := dk_3 (dk_at dksX2_take_0 2 rfl rfl)
theorem dX2_take_3 : decode cX2_take 3 = .ok (.istore_n 3, 1) := dk_62 (dk_at dksX2_take_0 3 rfl rfl)
theorem dX2_take_4 : decode cX2_take 4 = .ok (.iload_n 3, 1) := dk_29 (dk_at dksX2_take_0 4 rfl rfl)
theorem dX2_take_5 : decode cX2_take 5 = .ok (.bipush 64, 2) := dk_16 64 (dk_at dksX2_take_0 5 rfl rfl)
theorem dX2_take_7 : decode cX2_take 7 = .ok (.if_icmp .ge 31, 3) := dk_162 0 31 (dk_at dksX2_take_0 7 rfl rfl)
theorem dX2_take_10 : decode cX2_take 10 = .ok (.iload_n 2, 1) := dk_28 (dk_at dksX2_take_0 10 rfl rfl)
theorem dX2_take_11 : decode cX2_take 11 = .ok (.aload_n 0, 1) := dk_42 (dk_at dksX2_take_0 11 rfl rfl)
theorem dX2_take_12 : decode cX2_take 12 = .ok (.iload_n 3, 1) := dk_29 (dk_at dksX2_take_0 12 rfl rfl)
theorem dX2_take_13 : decode cX2_take 13 = .ok (.aload_n 1, 1) := dk_43 (dk_at dksX2_take_0 13 rfl rfl)
theorem dX2_take_14 : decode cX2_take 14 = .ok (.iload_n 3, 1) := dk_29 (dk_at dksX2_take_0 14 rfl rfl)
theorem dX2_take_15 : decode cX2_take 15 = .ok (.iaload, 1) := dk_46 (dk_at dksX2_take_0 15 rfl rfl)
theorem dX2_take_16 : decode cX2_take 16 = .ok (.invokevirtual 31, 3) := dk_182 0 31 (dk_at dksX2_take_0 16 rfl rfl)
theorem dX2_take_19 : decode cX2_take 19 = .ok (.aload_n 1, 1) := dk_43 (dk_at dksX2_take_0 19 rfl rfl)
theorem dX2_take_20 : decode cX2_take 20 = .ok (.iload_n 3, 1) := dk_29 (dk_at dksX2_take_0 20 rfl rfl)
theorem dX2_take_21 : decode cX2_take 21 = .ok (.iaload, 1) := dk_46 (dk_at dksX2_take_0 21 rfl rfl)
theorem dX2_take_22 : decode cX2_take 22 = .ok (.if_icmp .ne 7, 3) := dk_160 0 7 (dk_at dksX2_take_1 0 rfl rfl)
theorem dX2_take_25 : decode cX2_take 25 = .ok (.iconst 0, 1) := dk_3 (dk_at dksX2_take_1 3 rfl rfl)
theorem dX2_take_26 : decode cX2_take 26 = .ok (.goto 4, 3) := dk_167 0 4 (dk_at dksX2_take_1 4 rfl rfl)
theorem dX2_take_29 : decode cX2_take 29 = .ok (.iconst 1, 1) := dk_4 (dk_at dksX2_take_1 7 rfl rfl)
theorem dX2_take_30 : decode cX2_take 30 = .ok (.iadd, 1) := dk_96 (dk_at dksX2_take_1 8 rfl rfl)
theorem dX2_take_31 : decode cX2_take 31 = .ok (.istore_n 2, 1) := dk_61 (dk_at dksX2_take_1 9 rfl rfl)
theorem dX2_take_32 : decode cX2_take 32 = .ok (.iinc 3 1, 3) := dk_132 3 1 (dk_at dksX2_take_1 10 rfl rfl)
theorem dX2_take_35 : decode cX2_take 35 = .ok (.goto (-31), 3) := dk_167 255 225 (dk_at dksX2_take_1 13 rfl rfl)
theorem dX2_take_38 : decode cX2_take 38 = .ok (.iload_n 2, 1) := dk_28 (dk_at dksX2_take_1 16 rfl rfl)
theorem dX2_take_39 : decode cX2_take 39 = .ok (.ireturn, 1) := dk_172 (dk_at dksX2_take_1 17 rfl rfl)
abbrev cX2_setShade : ByteArray := prog_7_method_4_code
def yX2_setShade : MethodName := ⟨RX2, "setShade", "(II)I"⟩
def dkwX2_setShade_0 : List UInt8 := [42, 180, 0, 9, 27, 46, 62, 42, 180, 0, 9, 27, 28, 79, 29, 172]
abbrev dktX2_setShade_0 : List UInt8 := dkwX2_setShade_0 ++ []
theorem dksX2_setShade_0 : cX2_setShade.data.toList.drop 0 = dktX2_setShade_0 := by decide +kernel
theorem dX2_setShade_0 : decode cX2_setShade 0 = .ok (.aload_n 0, 1) := dk_42 (dk_at dksX2_setShade_0 0 rfl rfl)
theorem dX2_setShade_1 : decode cX2_setShade 1 = .ok (.getfield 9, 3) := dk_180 0 9 (dk_at dksX2_setShade_0 1 rfl rfl)
theorem dX2_setShade_4 : decode cX2_setShade 4 = .ok (.iload_n 1, 1) := dk_27 (dk_at dksX2_setShade_0 4 rfl rfl)
theorem dX2_setShade_5 : decode cX2_setShade 5 = .ok (.iaload, 1) := dk_46 (dk_at dksX2_setShade_0 5 rfl rfl)
theorem dX2_setShade_6 : decode cX2_setShade 6 = .ok (.istore_n 3, 1) := dk_62 (dk_at dksX2_setShade_0 6 rfl rfl)
theorem dX2_setShade_7 : decode cX2_setShade 7 = .ok (.aload_n 0, 1) := dk_42 (dk_at dksX2_setShade_0 7 rfl rfl)
theorem dX2_setShade_8 : decode cX2_setShade 8 = .ok (.getfield 9, 3) := dk_180 0 9 (dk_at dksX2_setShade_0 8 rfl rfl)
theorem dX2_setShade_11 : decode cX2_setShade 11 = .ok (.iload_n 1, 1) := dk_27 (dk_at dksX2_setShade_0 11 rfl rfl)
theorem dX2_setShade_12 : decode cX2_setShade 12 = .ok (.iload_n 2, 1) := dk_28 (dk_at dksX2_setShade_0 12 rfl rfl)
theorem dX2_setShade_13 : decode cX2_setShade 13 = .ok (.iastore, 1) := dk_79 (dk_at dksX2_setShade_0 13 rfl rfl)
theorem dX2_setShade_14 : decode cX2_setShade 14 = .ok (.iload_n 3, 1) := dk_29 (dk_at dksX2_setShade_0 14 rfl rfl)
theorem dX2_setShade_15 : decode cX2_setShade 15 = .ok (.ireturn, 1) := dk_172 (dk_at dksX2_setShade_0 15 rfl rfl)
abbrev cX2_invert : ByteArray := prog_7_method_8_code
def yX2_invert : MethodName := ⟨RX2, "invert", "()I"⟩
def dkwX2_invert_1 : List UInt8 := [132, 1, 1, 167, 255, 231, 42, 182, 0, 39, 172]
abbrev dktX2_invert_1 : List UInt8 := dkwX2_invert_1 ++ []
def dkwX2_invert_0 : List UInt8 := [3, 60, 27, 16, 64, 162, 0, 25, 42, 180, 0, 9, 27, 17, 0, 255, 42, 180, 0, 9, 27, 46, 100, 79]
abbrev dktX2_invert_0 : List UInt8 := dkwX2_invert_0 ++ dktX2_invert_1
theorem dksX2_invert_0 : cX2_invert.data.toList.drop 0 = dktX2_invert_0 := by decide +kernel
theorem dksX2_invert_1 : cX2_invert.data.toList.drop 24 = dktX2_invert_1 := dk_seg dksX2_invert_0 24 rfl rfl
theorem dX2_invert_0 : decode cX2_invert 0 = .ok (.iconst 0, 1) := dk_3 (dk_at dksX2_invert_0 0 rfl rfl)
theorem dX2_invert_1 : decode cX2_invert 1 = .ok (.istore_n 1, 1) := dk_60 (dk_at dksX2_invert_0 1 rfl rfl)
theorem dX2_invert_2 : decode cX2_invert 2 = .ok (.iload_n 1, 1) := dk_27 (dk_at dksX2_invert_0 2 rfl rfl)
theorem dX2_invert_3 : decode cX2_invert 3 = .ok (.bipush 64, 2) := dk_16 64 (dk_at dksX2_invert_0 3 rfl rfl)
theorem dX2_invert_5 : decode cX2_invert 5 = .ok (.if_icmp .ge 25, 3) := dk_162 0 25 (dk_at dksX2_invert_0 5 rfl rfl)
theorem dX2_invert_8 : decode cX2_invert 8 = .ok (.aload_n 0, 1) := dk_42 (dk_at dksX2_invert_0 8 rfl rfl)
theorem dX2_invert_9 : decode cX2_invert 9 = .ok (.getfield 9, 3) := dk_180 0 9 (dk_at dksX2_invert_0 9 rfl rfl)
theorem dX2_invert_12 : decode cX2_invert 12 = .ok (.iload_n 1, 1) := dk_27 (dk_at dksX2_invert_0 12 rfl rfl)
theorem dX2_invert_13 : decode cX2_invert 13 = .ok (.sipush 255, 3) := dk_17 0 255 (dk_at dksX2_invert_0 13 rfl rfl)
theorem dX2_invert_16 : decode cX2_invert 16 = .ok (.aload_n 0, 1) := dk_42 (dk_at dksX2_invert_0 16 rfl rfl)
theorem dX2_invert_17 : decode cX2_invert 17 = .ok (.getfield 9, 3) := dk_180 0 9 (dk_at dksX2_invert_0 17 rfl rfl)
theorem dX2_invert_20 : decode cX2_invert 20 = .ok (.iload_n 1, 1) := dk_27 (dk_at dksX2_invert_0 20 rfl rfl)
theorem dX2_invert_21 : decode cX2_invert 21 = .ok (.iaload, 1) := dk_46 (dk_at dksX2_invert_0 21 rfl rfl)
theorem dX2_invert_22 : decode cX2_invert 22 = .ok (.isub, 1) := dk_100 (dk_at dksX2_invert_0 22 rfl rfl)
theorem dX2_invert_23 : decode cX2_invert 23 = .ok (.iastore, 1) := dk_79 (dk_at dksX2_invert_0 23 rfl rfl)
theorem dX2_invert_24 : decode cX2_invert 24 = .ok (.iinc 1 1, 3) := dk_132 1 1 (dk_at dksX2_invert_1 0 rfl rfl)
theorem dX2_invert_27 : decode cX2_invert 27 = .ok (.goto (-25), 3) := dk_167 255 231 (dk_at dksX2_invert_1 3 rfl rfl)
theorem dX2_invert_30 : decode cX2_invert 30 = .ok (.aload_n 0, 1) := dk_42 (dk_at dksX2_invert_1 6 rfl rfl)
theorem dX2_invert_31 : decode cX2_invert 31 = .ok (.invokevirtual 39, 3) := dk_182 0 39 (dk_at dksX2_invert_1 7 rfl rfl)
theorem dX2_invert_34 : decode cX2_invert 34 = .ok (.ireturn, 1) := dk_172 (dk_at dksX2_invert_1 10 rfl rfl)
abbrev cX2_sum : ByteArray := prog_7_method_3_code
def yX2_sum : MethodName := ⟨RX2, "sum", "()I"⟩
def dkwX2_sum_1 : List UInt8 := [54, 5, 27, 21, 5, 96, 60, 132, 4, 1, 167, 255, 236, 27, 172]
abbrev dktX2_sum_1 : List UInt8 := dkwX2_sum_1 ++ []
def dkwX2_sum_0 : List UInt8 := [3, 60, 42, 180, 0, 9, 77, 44, 190, 62, 3, 54, 4, 21, 4, 29, 162, 0, 20, 44, 21, 4, 46]
abbrev dktX2_sum_0 : List UInt8 := dkwX2_sum_0 ++ dktX2_sum_1
theorem dksX2_sum_0 : cX2_sum.data.toList.drop 0 = dktX2_sum_0 := by decide +kernel
theorem dksX2_sum_1 : cX2_sum.data.toList.drop 23 = dktX2_sum_1 := dk_seg dksX2_sum_0 23 rfl rfl
theorem dX2_sum_0 : decode cX2_sum 0 = .ok (.iconst 0, 1) := dk_3 (dk_at dksX2_sum_0 0 rfl rfl)
theorem dX2_sum_1 : decode cX2_sum 1 = .ok (.istore_n 1, 1) := dk_60 (dk_at dksX2_sum_0 1 rfl rfl)
theorem dX2_sum_2 : decode cX2_sum 2 = .ok (.aload_n 0, 1) := dk_42 (dk_at dksX2_sum_0 2 rfl rfl)
theorem dX2_sum_3 : decode cX2_sum 3 = .ok (.getfield 9, 3) := dk_180 0 9 (dk_at dksX2_sum_0 3 rfl rfl)
theorem dX2_sum_6 : decode cX2_sum 6 = .ok (.astore_n 2, 1) := dk_77 (dk_at dksX2_sum_0 6 rfl rfl)
theorem dX2_sum_7 : decode cX2_sum 7 = .ok (.aload_n 2, 1) := dk_44 (dk_at dksX2_sum_0 7 rfl rfl)
theorem dX2_sum_8 : decode cX2_sum 8 = .ok (.arraylength, 1) := dk_190 (dk_at dksX2_sum_0 8 rfl rfl)
theorem dX2_sum_9 : decode cX2_sum 9 = .ok (.istore_n 3, 1) := dk_62 (dk_at dksX2_sum_0 9 rfl rfl)
theorem dX2_sum_10 : decode cX2_sum 10 = .ok (.iconst 0, 1) := dk_3 (dk_at dksX2_sum_0 10 rfl rfl)
theorem dX2_sum_11 : decode cX2_sum 11 = .ok (.istore 4, 2) := dk_54 4 (dk_at dksX2_sum_0 11 rfl rfl)
theorem dX2_sum_13 : decode cX2_sum 13 = .ok (.iload 4, 2) := dk_21 4 (dk_at dksX2_sum_0 13 rfl rfl)
theorem dX2_sum_15 : decode cX2_sum 15 = .ok (.iload_n 3, 1) := dk_29 (dk_at dksX2_sum_0 15 rfl rfl)
theorem dX2_sum_16 : decode cX2_sum 16 = .ok (.if_icmp .ge 20, 3) := dk_162 0 20 (dk_at dksX2_sum_0 16 rfl rfl)
theorem dX2_sum_19 : decode cX2_sum 19 = .ok (.aload_n 2, 1) := dk_44 (dk_at dksX2_sum_0 19 rfl rfl)
theorem dX2_sum_20 : decode cX2_sum 20 = .ok (.iload 4, 2) := dk_21 4 (dk_at dksX2_sum_0 20 rfl rfl)
theorem dX2_sum_22 : decode cX2_sum 22 = .ok (.iaload, 1) := dk_46 (dk_at dksX2_sum_0 22 rfl rfl)
theorem dX2_sum_23 : decode cX2_sum 23 = .ok (.istore 5, 2) := dk_54 5 (dk_at dksX2_sum_1 0 rfl rfl)
theorem dX2_sum_25 : decode cX2_sum 25 = .ok (.iload_n 1, 1) := dk_27 (dk_at dksX2_sum_1 2 rfl rfl)
theorem dX2_sum_26 : decode cX2_sum 26 = .ok (.iload 5, 2) := dk_21 5 (dk_at dksX2_sum_1 3 rfl rfl)
theorem dX2_sum_28 : decode cX2_sum 28 = .ok (.iadd, 1) := dk_96 (dk_at dksX2_sum_1 5 rfl rfl)
theorem dX2_sum_29 : decode cX2_sum 29 = .ok (.istore_n 1, 1) := dk_60 (dk_at dksX2_sum_1 6 rfl rfl)
theorem dX2_sum_30 : decode cX2_sum 30 = .ok (.iinc 4 1, 3) := dk_132 4 1 (dk_at dksX2_sum_1 7 rfl rfl)
theorem dX2_sum_33 : decode cX2_sum 33 = .ok (.goto (-20), 3) := dk_167 255 236 (dk_at dksX2_sum_1 10 rfl rfl)
theorem dX2_sum_36 : decode cX2_sum 36 = .ok (.iload_n 1, 1) := dk_27 (dk_at dksX2_sum_1 13 rfl rfl)
theorem dX2_sum_37 : decode cX2_sum 37 = .ok (.ireturn, 1) := dk_172 (dk_at dksX2_sum_1 14 rfl rfl)
abbrev cX2_fill : ByteArray := prog_7_method_5_code
def yX2_fill : MethodName := ⟨RX2, "fill", "(III)I"⟩
def dkwX2_fill_2 : List UInt8 := [54, 4, 132, 5, 1, 167, 255, 210, 21, 4, 172]
abbrev dktX2_fill_2 : List UInt8 := dkwX2_fill_2 ++ []
def dkwX2_fill_1 : List UInt8 := [21, 5, 29, 104, 96, 182, 0, 31, 28, 21, 5, 29, 104, 96, 160, 0, 7, 3, 167, 0, 4, 4, 96]
abbrev dktX2_fill_1 : List UInt8 := dkwX2_fill_1 ++ dktX2_fill_2
def dkwX2_fill_0 : List UInt8 := [3, 54, 4, 3, 54, 5, 21, 5, 16, 8, 162, 0, 45, 21, 4, 42, 16, 8, 27, 104, 21, 5, 96, 28]
abbrev dktX2_fill_0 : List UInt8 := dkwX2_fill_0 ++ dktX2_fill_1
theorem dksX2_fill_0 : cX2_fill.data.toList.drop 0 = dktX2_fill_0 := by decide +kernel
theorem dksX2_fill_1 : cX2_fill.data.toList.drop 24 = dktX2_fill_1 := dk_seg dksX2_fill_0 24 rfl rfl
theorem dksX2_fill_2 : cX2_fill.data.toList.drop 47 = dktX2_fill_2 := dk_seg dksX2_fill_1 23 rfl rfl
theorem dX2_fill_0 : decode cX2_fill 0 = .ok (.iconst 0, 1) := dk_3 (dk_at dksX2_fill_0 0 rfl rfl)
theorem dX2_fill_1 : decode cX2_fill 1 = .ok (.istore 4, 2) := dk_54 4 (dk_at dksX2_fill_0 1 rfl rfl)
theorem dX2_fill_3 : decode cX2_fill 3 = .ok (.iconst 0, 1) := dk_3 (dk_at dksX2_fill_0 3 rfl rfl)
theorem dX2_fill_4 : decode cX2_fill 4 = .ok (.istore 5, 2) := dk_54 5 (dk_at dksX2_fill_0 4 rfl rfl)
theorem dX2_fill_6 : decode cX2_fill 6 = .ok (.iload 5, 2) := dk_21 5 (dk_at dksX2_fill_0 6 rfl rfl)
theorem dX2_fill_8 : decode cX2_fill 8 = .ok (.bipush 8, 2) := dk_16 8 (dk_at dksX2_fill_0 8 rfl rfl)
theorem dX2_fill_10 : decode cX2_fill 10 = .ok (.if_icmp .ge 45, 3) := dk_162 0 45 (dk_at dksX2_fill_0 10 rfl rfl)
theorem dX2_fill_13 : decode cX2_fill 13 = .ok (.iload 4, 2) := dk_21 4 (dk_at dksX2_fill_0 13 rfl rfl)
theorem dX2_fill_15 : decode cX2_fill 15 = .ok (.aload_n 0, 1) := dk_42 (dk_at dksX2_fill_0 15 rfl rfl)
theorem dX2_fill_16 : decode cX2_fill 16 = .ok (.bipush 8, 2) := dk_16 8 (dk_at dksX2_fill_0 16 rfl rfl)
theorem dX2_fill_18 : decode cX2_fill 18 = .ok (.iload_n 1, 1) := dk_27 (dk_at dksX2_fill_0 18 rfl rfl)
theorem dX2_fill_19 : decode cX2_fill 19 = .ok (.imul, 1) := dk_104 (dk_at dksX2_fill_0 19 rfl rfl)
theorem dX2_fill_20 : decode cX2_fill 20 = .ok (.iload 5, 2) := dk_21 5 (dk_at dksX2_fill_0 20 rfl rfl)
theorem dX2_fill_22 : decode cX2_fill 22 = .ok (.iadd, 1) := dk_96 (dk_at dksX2_fill_0 22 rfl rfl)
theorem dX2_fill_23 : decode cX2_fill 23 = .ok (.iload_n 2, 1) := dk_28 (dk_at dksX2_fill_0 23 rfl rfl)
theorem dX2_fill_24 : decode cX2_fill 24 = .ok (.iload 5, 2) := dk_21 5 (dk_at dksX2_fill_1 0 rfl rfl)
theorem dX2_fill_26 : decode cX2_fill 26 = .ok (.iload_n 3, 1) := dk_29 (dk_at dksX2_fill_1 2 rfl rfl)
theorem dX2_fill_27 : decode cX2_fill 27 = .ok (.imul, 1) := dk_104 (dk_at dksX2_fill_1 3 rfl rfl)
theorem dX2_fill_28 : decode cX2_fill 28 = .ok (.iadd, 1) := dk_96 (dk_at dksX2_fill_1 4 rfl rfl)
theorem dX2_fill_29 : decode cX2_fill 29 = .ok (.invokevirtual 31, 3) := dk_182 0 31 (dk_at dksX2_fill_1 5 rfl rfl)
theorem dX2_fill_32 : decode cX2_fill 32 = .ok (.iload_n 2, 1) := dk_28 (dk_at dksX2_fill_1 8 rfl rfl)
theorem dX2_fill_33 : decode cX2_fill 33 = .ok (.iload 5, 2) := dk_21 5 (dk_at dksX2_fill_1 9 rfl rfl)
theorem dX2_fill_35 : decode cX2_fill 35 = .ok (.iload_n 3, 1) := dk_29 (dk_at dksX2_fill_1 11 rfl rfl)
theorem dX2_fill_36 : decode cX2_fill 36 = .ok (.imul, 1) := dk_104 (dk_at dksX2_fill_1 12 rfl rfl)
theorem dX2_fill_37 : decode cX2_fill 37 = .ok (.iadd, 1) := dk_96 (dk_at dksX2_fill_1 13 rfl rfl)
theorem dX2_fill_38 : decode cX2_fill 38 = .ok (.if_icmp .ne 7, 3) := dk_160 0 7 (dk_at dksX2_fill_1 14 rfl rfl)
theorem dX2_fill_41 : decode cX2_fill 41 = .ok (.iconst 0, 1) := dk_3 (dk_at dksX2_fill_1 17 rfl rfl)
theorem dX2_fill_42 : decode cX2_fill 42 = .ok (.goto 4, 3) := dk_167 0 4 (dk_at dksX2_fill_1 18 rfl rfl)
theorem dX2_fill_45 : decode cX2_fill 45 = .ok (.iconst 1, 1) := dk_4 (dk_at dksX2_fill_1 21 rfl rfl)
theorem dX2_fill_46 : decode cX2_fill 46 = .ok (.iadd, 1) := dk_96 (dk_at dksX2_fill_1 22 rfl rfl)
theorem dX2_fill_47 : decode cX2_fill 47 = .ok (.istore 4, 2) := dk_54 4 (dk_at dksX2_fill_2 0 rfl rfl)
theorem dX2_fill_49 : decode cX2_fill 49 = .ok (.iinc 5 1, 3) := dk_132 5 1 (dk_at dksX2_fill_2 2 rfl rfl)
theorem dX2_fill_52 : decode cX2_fill 52 = .ok (.goto (-46), 3) := dk_167 255 210 (dk_at dksX2_fill_2 5 rfl rfl)
theorem dX2_fill_55 : decode cX2_fill 55 = .ok (.iload 4, 2) := dk_21 4 (dk_at dksX2_fill_2 8 rfl rfl)
theorem dX2_fill_57 : decode cX2_fill 57 = .ok (.ireturn, 1) := dk_172 (dk_at dksX2_fill_2 10 rfl rfl)
abbrev cX2_setLevels : ByteArray := prog_7_method_9_code
def yX2_setLevels : MethodName := ⟨RX2, "setLevels", "(I)I"⟩
def dkwX2_setLevels_0 : List UInt8 := [42, 180, 0, 15, 61, 42, 27, 181, 0, 15, 28, 172]
abbrev dktX2_setLevels_0 : List UInt8 := dkwX2_setLevels_0 ++ []
theorem dksX2_setLevels_0 : cX2_setLevels.data.toList.drop 0 = dktX2_setLevels_0 := by decide +kernel
theorem dX2_setLevels_0 : decode cX2_setLevels 0 = .ok (.aload_n 0, 1) := dk_42 (dk_at dksX2_setLevels_0 0 rfl rfl)
theorem dX2_setLevels_1 : decode cX2_setLevels 1 = .ok (.getfield 15, 3) := dk_180 0 15 (dk_at dksX2_setLevels_0 1 rfl rfl)
theorem dX2_setLevels_4 : decode cX2_setLevels 4 = .ok (.istore_n 2, 1) := dk_61 (dk_at dksX2_setLevels_0 4 rfl rfl)
theorem dX2_setLevels_5 : decode cX2_setLevels 5 = .ok (.aload_n 0, 1) := dk_42 (dk_at dksX2_setLevels_0 5 rfl rfl)
theorem dX2_setLevels_6 : decode cX2_setLevels 6 = .ok (.iload_n 1, 1) := dk_27 (dk_at dksX2_setLevels_0 6 rfl rfl)
theorem dX2_setLevels_7 : decode cX2_setLevels 7 = .ok (.putfield 15, 3) := dk_181 0 15 (dk_at dksX2_setLevels_0 7 rfl rfl)
theorem dX2_setLevels_10 : decode cX2_setLevels 10 = .ok (.iload_n 2, 1) := dk_28 (dk_at dksX2_setLevels_0 10 rfl rfl)
theorem dX2_setLevels_11 : decode cX2_setLevels 11 = .ok (.ireturn, 1) := dk_172 (dk_at dksX2_setLevels_0 11 rfl rfl)
theorem q107 : (Jvm.Cond.initialized "CrumbPictures$Sheet") ∈ lw_all := lw_g (lw_at lw_m1 2 rfl) rfl
theorem q153 : (Jvm.Cond.instantiable "CrumbPictures$Sheet" (4 : Nat)) ∈ lw_all := lw_g (lw_at lw_m1 48 rfl) rfl
theorem q155 : (Jvm.Cond.instanceMethod ({ cls := "CrumbPictures$Sheet", name := "<init>", desc := "()V" } : Jvm.MethodName)) ∈ lw_all := lw_g (lw_at lw_m1 50 rfl) rfl
theorem q156 : (Jvm.Cond.code ({ cls := "CrumbPictures$Sheet", name := "<init>", desc := "()V" } : Jvm.MethodName) prog_7_method_1_code (1 : Nat) (Option.none : Option Jvm.ClassFile.FieldType)) ∈ lw_all := lw_g (lw_at lw_m1 51 rfl) rfl
theorem q157 : (Jvm.Cond.methodLink "CrumbPictures$Sheet" (3 : Nat) ({ cls := "java/lang/Object", name := "<init>", desc := "()V" } : Jvm.MethodName)) ∈ lw_all := lw_g (lw_at lw_m1 52 rfl) rfl
theorem q158 : (Jvm.Cond.fieldLink "CrumbPictures$Sheet" (9 : Nat) "CrumbPictures$Sheet" "shades" "[I") ∈ lw_all := lw_g (lw_at lw_m1 53 rfl) rfl
theorem q160 : (Jvm.Cond.fieldLink "CrumbPictures$Sheet" (15 : Nat) "CrumbPictures$Sheet" "levels" "I") ∈ lw_all := lw_g (lw_at lw_m1 55 rfl) rfl
theorem q162 : (Jvm.Cond.fieldLink "CrumbPictures$Sheet" (19 : Nat) "CrumbPictures$Sheet" "stop" "I") ∈ lw_all := lw_g (lw_at lw_m1 57 rfl) rfl
theorem q164 : (Jvm.Cond.fieldLink "CrumbPictures$Sheet" (28 : Nat) "CrumbPictures$Sheet" "why" "I") ∈ lw_all := lw_g (lw_at lw_m1 59 rfl) rfl
theorem q166 : (Jvm.Cond.laysFinal "CrumbPictures$Sheet" "CrumbPictures$Sheet" "shades" "[I") ∈ lw_all := lw_g (lw_at lw_m1 61 rfl) rfl
theorem q167 : (Jvm.Cond.soleField "CrumbPictures$Sheet" "shades") ∈ lw_all := lw_g (lw_at lw_m1 62 rfl) rfl
theorem q168 : (Jvm.Cond.lays "CrumbPictures$Sheet" "CrumbPictures$Sheet" "levels" "I") ∈ lw_all := lw_g (lw_at lw_m1 63 rfl) rfl
theorem q169 : (Jvm.Cond.soleField "CrumbPictures$Sheet" "levels") ∈ lw_all := lw_g (lw_at lw_m1 64 rfl) rfl
theorem q170 : (Jvm.Cond.lays "CrumbPictures$Sheet" "CrumbPictures$Sheet" "stop" "I") ∈ lw_all := lw_g (lw_at lw_m1 65 rfl) rfl
theorem q171 : (Jvm.Cond.soleField "CrumbPictures$Sheet" "stop") ∈ lw_all := lw_g (lw_at lw_m1 66 rfl) rfl
theorem q172 : (Jvm.Cond.lays "CrumbPictures$Sheet" "CrumbPictures$Sheet" "why" "I") ∈ lw_all := lw_g (lw_at lw_m1 67 rfl) rfl
theorem q173 : (Jvm.Cond.soleField "CrumbPictures$Sheet" "why") ∈ lw_all := lw_g (lw_at lw_m1 68 rfl) rfl
theorem q174 : (Jvm.Cond.superclass "CrumbPictures$Sheet" "java/lang/Object") ∈ lw_all := lw_g (lw_at lw_m1 69 rfl) rfl
theorem q562 : (Jvm.Cond.instanceMethod ({ cls := "CrumbPictures$Sheet", name := "become", desc := "(LCrumbPictures$Sheet;)LCrumbPictures$Sheet;" } : Jvm.MethodName)) ∈ lw_all := lw_g (lw_at lw_m2 217 rfl) rfl
theorem q563 : (Jvm.Cond.selects "CrumbPictures$Sheet" ({ cls := "CrumbPictures$Sheet", name := "become", desc := "(LCrumbPictures$Sheet;)LCrumbPictures$Sheet;" } : Jvm.MethodName) ({ cls := "CrumbPictures$Sheet", name := "become", desc := "(LCrumbPictures$Sheet;)LCrumbPictures$Sheet;" } : Jvm.MethodName)) ∈ lw_all := lw_g (lw_at lw_m2 218 rfl) rfl
theorem q564 : (Jvm.Cond.code ({ cls := "CrumbPictures$Sheet", name := "become", desc := "(LCrumbPictures$Sheet;)LCrumbPictures$Sheet;" } : Jvm.MethodName) prog_7_method_2_code (2 : Nat) (Option.some (Jvm.ClassFile.FieldType.object "CrumbPictures$Sheet"))) ∈ lw_all := lw_g (lw_at lw_m2 219 rfl) rfl
theorem q565 : (Jvm.Cond.methodLink "CrumbPictures$Sheet" (22 : Nat) ({ cls := "java/lang/System", name := "arraycopy", desc := "(Ljava/lang/Object;ILjava/lang/Object;II)V" } : Jvm.MethodName)) ∈ lw_all := lw_g (lw_at lw_m2 220 rfl) rfl
theorem q604 : (Jvm.Cond.selects "CrumbPictures$Sheet" ({ cls := "java/lang/Object", name := "getClass", desc := "()Ljava/lang/Class;" } : Jvm.MethodName) ({ cls := "java/lang/Object", name := "getClass", desc := "()Ljava/lang/Class;" } : Jvm.MethodName)) ∈ lw_all := lw_g (lw_at lw_m3 19 rfl) rfl
theorem q633 : (Jvm.Cond.instanceMethod ({ cls := "CrumbPictures$Sheet", name := "turn", desc := "([IZ)I" } : Jvm.MethodName)) ∈ lw_all := lw_g (lw_at lw_m3 48 rfl) rfl
theorem q634 : (Jvm.Cond.selects "CrumbPictures$Sheet" ({ cls := "CrumbPictures$Sheet", name := "turn", desc := "([IZ)I" } : Jvm.MethodName) ({ cls := "CrumbPictures$Sheet", name := "turn", desc := "([IZ)I" } : Jvm.MethodName)) ∈ lw_all := lw_g (lw_at lw_m3 49 rfl) rfl
theorem q635 : (Jvm.Cond.code ({ cls := "CrumbPictures$Sheet", name := "turn", desc := "([IZ)I" } : Jvm.MethodName) prog_7_method_7_code (6 : Nat) (Option.some Jvm.ClassFile.FieldType.int)) ∈ lw_all := lw_g (lw_at lw_m3 50 rfl) rfl
theorem q636 : (Jvm.Cond.methodLink "CrumbPictures$Sheet" (35 : Nat) ({ cls := "CrumbPictures$Sheet", name := "take", desc := "([I)I" } : Jvm.MethodName)) ∈ lw_all := lw_g (lw_at lw_m3 51 rfl) rfl
theorem q637 : (Jvm.Cond.instanceMethod ({ cls := "CrumbPictures$Sheet", name := "take", desc := "([I)I" } : Jvm.MethodName)) ∈ lw_all := lw_g (lw_at lw_m3 52 rfl) rfl
theorem q638 : (Jvm.Cond.selects "CrumbPictures$Sheet" ({ cls := "CrumbPictures$Sheet", name := "take", desc := "([I)I" } : Jvm.MethodName) ({ cls := "CrumbPictures$Sheet", name := "take", desc := "([I)I" } : Jvm.MethodName)) ∈ lw_all := lw_g (lw_at lw_m3 53 rfl) rfl
theorem q639 : (Jvm.Cond.code ({ cls := "CrumbPictures$Sheet", name := "take", desc := "([I)I" } : Jvm.MethodName) prog_7_method_6_code (4 : Nat) (Option.some Jvm.ClassFile.FieldType.int)) ∈ lw_all := lw_g (lw_at lw_m3 54 rfl) rfl
theorem q640 : (Jvm.Cond.methodLink "CrumbPictures$Sheet" (31 : Nat) ({ cls := "CrumbPictures$Sheet", name := "setShade", desc := "(II)I" } : Jvm.MethodName)) ∈ lw_all := lw_g (lw_at lw_m3 55 rfl) rfl
theorem q641 : (Jvm.Cond.instanceMethod ({ cls := "CrumbPictures$Sheet", name := "setShade", desc := "(II)I" } : Jvm.MethodName)) ∈ lw_all := lw_g (lw_at lw_m3 56 rfl) rfl
theorem q642 : (Jvm.Cond.selects "CrumbPictures$Sheet" ({ cls := "CrumbPictures$Sheet", name := "setShade", desc := "(II)I" } : Jvm.MethodName) ({ cls := "CrumbPictures$Sheet", name := "setShade", desc := "(II)I" } : Jvm.MethodName)) ∈ lw_all := lw_g (lw_at lw_m3 57 rfl) rfl
theorem q643 : (Jvm.Cond.code ({ cls := "CrumbPictures$Sheet", name := "setShade", desc := "(II)I" } : Jvm.MethodName) prog_7_method_4_code (4 : Nat) (Option.some Jvm.ClassFile.FieldType.int)) ∈ lw_all := lw_g (lw_at lw_m3 58 rfl) rfl
theorem q653 : (Jvm.Cond.instanceMethod ({ cls := "CrumbPictures$Sheet", name := "invert", desc := "()I" } : Jvm.MethodName)) ∈ lw_all := lw_g (lw_at lw_m3 68 rfl) rfl
theorem q654 : (Jvm.Cond.selects "CrumbPictures$Sheet" ({ cls := "CrumbPictures$Sheet", name := "invert", desc := "()I" } : Jvm.MethodName) ({ cls := "CrumbPictures$Sheet", name := "invert", desc := "()I" } : Jvm.MethodName)) ∈ lw_all := lw_g (lw_at lw_m3 69 rfl) rfl
theorem q655 : (Jvm.Cond.code ({ cls := "CrumbPictures$Sheet", name := "invert", desc := "()I" } : Jvm.MethodName) prog_7_method_8_code (2 : Nat) (Option.some Jvm.ClassFile.FieldType.int)) ∈ lw_all := lw_g (lw_at lw_m3 70 rfl) rfl
theorem q656 : (Jvm.Cond.methodLink "CrumbPictures$Sheet" (39 : Nat) ({ cls := "CrumbPictures$Sheet", name := "sum", desc := "()I" } : Jvm.MethodName)) ∈ lw_all := lw_g (lw_at lw_m3 71 rfl) rfl
theorem q657 : (Jvm.Cond.instanceMethod ({ cls := "CrumbPictures$Sheet", name := "sum", desc := "()I" } : Jvm.MethodName)) ∈ lw_all := lw_g (lw_at lw_m3 72 rfl) rfl
theorem q658 : (Jvm.Cond.selects "CrumbPictures$Sheet" ({ cls := "CrumbPictures$Sheet", name := "sum", desc := "()I" } : Jvm.MethodName) ({ cls := "CrumbPictures$Sheet", name := "sum", desc := "()I" } : Jvm.MethodName)) ∈ lw_all := lw_g (lw_at lw_m3 73 rfl) rfl
theorem q659 : (Jvm.Cond.code ({ cls := "CrumbPictures$Sheet", name := "sum", desc := "()I" } : Jvm.MethodName) prog_7_method_3_code (6 : Nat) (Option.some Jvm.ClassFile.FieldType.int)) ∈ lw_all := lw_g (lw_at lw_m3 74 rfl) rfl
theorem q1411 : (Jvm.Cond.instanceMethod ({ cls := "CrumbPictures$Sheet", name := "fill", desc := "(III)I" } : Jvm.MethodName)) ∈ lw_all := lw_g (lw_at lw_m6 106 rfl) rfl
theorem q1412 : (Jvm.Cond.selects "CrumbPictures$Sheet" ({ cls := "CrumbPictures$Sheet", name := "fill", desc := "(III)I" } : Jvm.MethodName) ({ cls := "CrumbPictures$Sheet", name := "fill", desc := "(III)I" } : Jvm.MethodName)) ∈ lw_all := lw_g (lw_at lw_m6 107 rfl) rfl
theorem q1413 : (Jvm.Cond.code ({ cls := "CrumbPictures$Sheet", name := "fill", desc := "(III)I" } : Jvm.MethodName) prog_7_method_5_code (6 : Nat) (Option.some Jvm.ClassFile.FieldType.int)) ∈ lw_all := lw_g (lw_at lw_m6 108 rfl) rfl
theorem q1445 : (Jvm.Cond.instanceMethod ({ cls := "CrumbPictures$Sheet", name := "setLevels", desc := "(I)I" } : Jvm.MethodName)) ∈ lw_all := lw_g (lw_at lw_m6 140 rfl) rfl
theorem q1446 : (Jvm.Cond.selects "CrumbPictures$Sheet" ({ cls := "CrumbPictures$Sheet", name := "setLevels", desc := "(I)I" } : Jvm.MethodName) ({ cls := "CrumbPictures$Sheet", name := "setLevels", desc := "(I)I" } : Jvm.MethodName)) ∈ lw_all := lw_g (lw_at lw_m6 141 rfl) rfl
theorem q1447 : (Jvm.Cond.code ({ cls := "CrumbPictures$Sheet", name := "setLevels", desc := "(I)I" } : Jvm.MethodName) prog_7_method_9_code (3 : Nat) (Option.some Jvm.ClassFile.FieldType.int)) ∈ lw_all := lw_g (lw_at lw_m6 142 rfl) rfl
theorem q2154 : (Jvm.Cond.castable "CrumbPictures$Sheet" "java/lang/Object") ∈ lw_tbl := lw_at lw_m9 129 rfl
theorem in_X2 : ∀ w ∈ wsX20, w ∈ lw_all := lw_in wsX20 [166, 168, 170, 172] (by decide +kernel) (by decide +kernel)
/-! CrumbPictures$Order -/
set_option maxRecDepth 100000
def RX3 : String := "CrumbPictures$Order"
def TX3 : u_T := fun k => match k with
  | 0 => ("CrumbPictures$Order", "cells", "[I", true)
  | 1 => ("CrumbPictures$Order", "places", "[I", true)
  | 2 => ("CrumbPictures$Order", "bands", "[I", true)
  | _ => ("CrumbPictures$Order", "many", "I", false)
def tyX3 : Nat → FieldType := fun k => match k with
  | 0 => .array .int
  | 1 => .array .int
  | 2 => .array .int
  | _ => .int
abbrev wsX30 : List Cond := u_ws RX3 TX3 4
theorem nmX3 : ∀ a, a < 4 → ∀ b, b < 4 → a ≠ b → (TX3 a).2.1 ≠ (TX3 b).2.1 := by decide +kernel
theorem tyX3_ok : ∀ k, k < 4 → parseFieldDescriptor (TX3 k).2.2.1 = some (tyX3 k) := by decide +kernel
abbrev cX3_init : ByteArray := prog_5_method_1_code
def yX3_init : MethodName := ⟨RX3, "<init>", "(I)V"⟩
def dkwX3_init_3 : List UInt8 := [177]
abbrev dktX3_init_3 : List UInt8 := dkwX3_init_3 ++ []
def dkwX3_init_2 : List UInt8 := [42, 6, 28, 4, 100, 104, 29, 96, 27, 182, 0, 21, 132, 3, 1, 167, 255, 236, 132, 2, 255, 167, 255, 224]
abbrev dktX3_init_2 : List UInt8 := dkwX3_init_2 ++ dktX3_init_3
def dkwX3_init_1 : List UInt8 := [188, 10, 181, 0, 18, 42, 3, 27, 182, 0, 21, 27, 61, 28, 158, 0, 34, 4, 62, 29, 6, 163, 0, 21]
abbrev dktX3_init_1 : List UInt8 := dkwX3_init_1 ++ dktX3_init_2
def dkwX3_init_0 : List UInt8 := [42, 183, 0, 3, 42, 16, 64, 188, 10, 181, 0, 9, 42, 16, 64, 188, 10, 181, 0, 15, 42, 16, 64]
abbrev dktX3_init_0 : List UInt8 := dkwX3_init_0 ++ dktX3_init_1
theorem dksX3_init_0 : cX3_init.data.toList.drop 0 = dktX3_init_0 := by decide +kernel
theorem dksX3_init_1 : cX3_init.data.toList.drop 23 = dktX3_init_1 := dk_seg dksX3_init_0 23 rfl rfl
theorem dksX3_init_2 : cX3_init.data.toList.drop 47 = dktX3_init_2 := dk_seg dksX3_init_1 24 rfl rfl
theorem dksX3_init_3 : cX3_init.data.toList.drop 71 = dktX3_init_3 := dk_seg dksX3_init_2 24 rfl rfl
theorem dX3_init_0 : decode cX3_init 0 = .ok (.aload_n 0, 1) := dk_42 (dk_at dksX3_init_0 0 rfl rfl)
theorem dX3_init_1 : decode cX3_init 1 = .ok (.invokespecial 3, 3) := dk_183 0 3 (dk_at dksX3_init_0 1 rfl rfl)
theorem dX3_init_4 : decode cX3_init 4 = .ok (.aload_n 0, 1) := dk_42 (dk_at dksX3_init_0 4 rfl rfl)
theorem dX3_init_5 : decode cX3_init 5 = .ok (.bipush 64, 2) := dk_16 64 (dk_at dksX3_init_0 5 rfl rfl)
theorem dX3_init_7 : decode cX3_init 7 = .ok (.newarray .int, 2) := dk_188_10 (dk_at dksX3_init_0 7 rfl rfl)
theorem dX3_init_9 : decode cX3_init 9 = .ok (.putfield 9, 3) := dk_181 0 9 (dk_at dksX3_init_0 9 rfl rfl)
theorem dX3_init_12 : decode cX3_init 12 = .ok (.aload_n 0, 1) := dk_42 (dk_at dksX3_init_0 12 rfl rfl)
theorem dX3_init_13 : decode cX3_init 13 = .ok (.bipush 64, 2) := dk_16 64 (dk_at dksX3_init_0 13 rfl rfl)
theorem dX3_init_15 : decode cX3_init 15 = .ok (.newarray .int, 2) := dk_188_10 (dk_at dksX3_init_0 15 rfl rfl)
theorem dX3_init_17 : decode cX3_init 17 = .ok (.putfield 15, 3) := dk_181 0 15 (dk_at dksX3_init_0 17 rfl rfl)
theorem dX3_init_20 : decode cX3_init 20 = .ok (.aload_n 0, 1) := dk_42 (dk_at dksX3_init_0 20 rfl rfl)
theorem dX3_init_21 : decode cX3_init 21 = .ok (.bipush 64, 2) := dk_16 64 (dk_at dksX3_init_0 21 rfl rfl)
theorem dX3_init_23 : decode cX3_init 23 = .ok (.newarray .int, 2) := dk_188_10 (dk_at dksX3_init_1 0 rfl rfl)
theorem dX3_init_25 : decode cX3_init 25 = .ok (.putfield 18, 3) := dk_181 0 18 (dk_at dksX3_init_1 2 rfl rfl)
theorem dX3_init_28 : decode cX3_init 28 = .ok (.aload_n 0, 1) := dk_42 (dk_at dksX3_init_1 5 rfl rfl)
theorem dX3_init_29 : decode cX3_init 29 = .ok (.iconst 0, 1) := dk_3 (dk_at dksX3_init_1 6 rfl rfl)
theorem dX3_init_30 : decode cX3_init 30 = .ok (.iload_n 1, 1) := dk_27 (dk_at dksX3_init_1 7 rfl rfl)
theorem dX3_init_31 : decode cX3_init 31 = .ok (.invokevirtual 21, 3) := dk_182 0 21 (dk_at dksX3_init_1 8 rfl rfl)
theorem dX3_init_34 : decode cX3_init 34 = .ok (.iload_n 1, 1) := dk_27 (dk_at dksX3_init_1 11 rfl rfl)
theorem dX3_init_35 : decode cX3_init 35 = .ok (.istore_n 2, 1) := dk_61 (dk_at dksX3_init_1 12 rfl rfl)
theorem dX3_init_36 : decode cX3_init 36 = .ok (.iload_n 2, 1) := dk_28 (dk_at dksX3_init_1 13 rfl rfl)
theorem dX3_init_37 : decode cX3_init 37 = .ok (.ifCond .le 34, 3) := dk_158 0 34 (dk_at dksX3_init_1 14 rfl rfl)
theorem dX3_init_40 : decode cX3_init 40 = .ok (.iconst 1, 1) := dk_4 (dk_at dksX3_init_1 17 rfl rfl)
theorem dX3_init_41 : decode cX3_init 41 = .ok (.istore_n 3, 1) := dk_62 (dk_at dksX3_init_1 18 rfl rfl)
theorem dX3_init_42 : decode cX3_init 42 = .ok (.iload_n 3, 1) := dk_29 (dk_at dksX3_init_1 19 rfl rfl)
theorem dX3_init_43 : decode cX3_init 43 = .ok (.iconst 3, 1) := dk_6 (dk_at dksX3_init_1 20 rfl rfl)
theorem dX3_init_44 : decode cX3_init 44 = .ok (.if_icmp .gt 21, 3) := dk_163 0 21 (dk_at dksX3_init_1 21 rfl rfl)
theorem dX3_init_47 : decode cX3_init 47 = .ok (.aload_n 0, 1) := dk_42 (dk_at dksX3_init_2 0 rfl rfl)
theorem dX3_init_48 : decode cX3_init 48 = .ok (.iconst 3, 1) := dk_6 (dk_at dksX3_init_2 1 rfl rfl)
theorem dX3_init_49 : decode cX3_init 49 = .ok (.iload_n 2, 1) := dk_28 (dk_at dksX3_init_2 2 rfl rfl)
theorem dX3_init_50 : decode cX3_init 50 = .ok (.iconst 1, 1) := dk_4 (dk_at dksX3_init_2 3 rfl rfl)
theorem dX3_init_51 : decode cX3_init 51 = .ok (.isub, 1) := dk_100 (dk_at dksX3_init_2 4 rfl rfl)
theorem dX3_init_52 : decode cX3_init 52 = .ok (.imul, 1) := dk_104 (dk_at dksX3_init_2 5 rfl rfl)
theorem dX3_init_53 : decode cX3_init 53 = .ok (.iload_n 3, 1) := dk_29 (dk_at dksX3_init_2 6 rfl rfl)
theorem dX3_init_54 : decode cX3_init 54 = .ok (.iadd, 1) := dk_96 (dk_at dksX3_init_2 7 rfl rfl)
theorem dX3_init_55 : decode cX3_init 55 = .ok (.iload_n 1, 1) := dk_27 (dk_at dksX3_init_2 8 rfl rfl)
theorem dX3_init_56 : decode cX3_init 56 = .ok (.invokevirtual 21, 3) := dk_182 0 21 (dk_at dksX3_init_2 9 rfl rfl)
theorem dX3_init_59 : decode cX3_init 59 = .ok (.iinc 3 1, 3) := dk_132 3 1 (dk_at dksX3_init_2 12 rfl rfl)
theorem dX3_init_62 : decode cX3_init 62 = .ok (.goto (-20), 3) := dk_167 255 236 (dk_at dksX3_init_2 15 rfl rfl)
theorem dX3_init_65 : decode cX3_init 65 = .ok (.iinc 2 (-1), 3) := dk_132 2 255 (dk_at dksX3_init_2 18 rfl rfl)
theorem dX3_init_68 : decode cX3_init 68 = .ok (.goto (-32), 3) := dk_167 255 224 (dk_at dksX3_init_2 21 rfl rfl)
theorem dX3_init_71 : decode cX3_init 71 = .ok (.return_, 1) := dk_177 (dk_at dksX3_init_3 0 rfl rfl)
abbrev cX3_add : ByteArray := prog_5_method_2_code
def yX3_add : MethodName := ⟨RX3, "add", "(II)V"⟩
def dkwX3_add_3 : List UInt8 := [4, 96, 181, 0, 49, 167, 255, 193, 177]
abbrev dktX3_add_3 : List UInt8 := dkwX3_add_3 ++ []
def dkwX3_add_2 : List UInt8 := [42, 180, 0, 15, 21, 4, 42, 180, 0, 49, 79, 42, 180, 0, 18, 21, 4, 27, 79, 42, 89, 180, 0, 49]
abbrev dktX3_add_2 : List UInt8 := dkwX3_add_2 ++ dktX3_add_3
def dkwX3_add_1 : List UInt8 := [185, 0, 39, 1, 0, 192, 0, 43, 182, 0, 45, 54, 4, 42, 180, 0, 9, 42, 180, 0, 49, 21, 4, 79]
abbrev dktX3_add_1 : List UInt8 := dkwX3_add_1 ++ dktX3_add_2
def dkwX3_add_0 : List UInt8 := [187, 0, 25, 89, 27, 28, 183, 0, 27, 182, 0, 29, 78, 45, 185, 0, 33, 1, 0, 153, 0, 60, 45]
abbrev dktX3_add_0 : List UInt8 := dkwX3_add_0 ++ dktX3_add_1
theorem dksX3_add_0 : cX3_add.data.toList.drop 0 = dktX3_add_0 := by decide +kernel
theorem dksX3_add_1 : cX3_add.data.toList.drop 23 = dktX3_add_1 := dk_seg dksX3_add_0 23 rfl rfl
theorem dksX3_add_2 : cX3_add.data.toList.drop 47 = dktX3_add_2 := dk_seg dksX3_add_1 24 rfl rfl
theorem dksX3_add_3 : cX3_add.data.toList.drop 71 = dktX3_add_3 := dk_seg dksX3_add_2 24 rfl rfl
theorem dX3_add_0 : decode cX3_add 0 = .ok (.new 25, 3) := dk_187 0 25 (dk_at dksX3_add_0 0 rfl rfl)
theorem dX3_add_3 : decode cX3_add 3 = .ok (.dup, 1) := dk_89 (dk_at dksX3_add_0 3 rfl rfl)
theorem dX3_add_4 : decode cX3_add 4 = .ok (.iload_n 1, 1) := dk_27 (dk_at dksX3_add_0 4 rfl rfl)
theorem dX3_add_5 : decode cX3_add 5 = .ok (.iload_n 2, 1) := dk_28 (dk_at dksX3_add_0 5 rfl rfl)
theorem dX3_add_6 : decode cX3_add 6 = .ok (.invokespecial 27, 3) := dk_183 0 27 (dk_at dksX3_add_0 6 rfl rfl)
theorem dX3_add_9 : decode cX3_add 9 = .ok (.invokevirtual 29, 3) := dk_182 0 29 (dk_at dksX3_add_0 9 rfl rfl)
theorem dX3_add_12 : decode cX3_add 12 = .ok (.astore_n 3, 1) := dk_78 (dk_at dksX3_add_0 12 rfl rfl)
theorem dX3_add_13 : decode cX3_add 13 = .ok (.aload_n 3, 1) := dk_45 (dk_at dksX3_add_0 13 rfl rfl)
theorem dX3_add_14 : decode cX3_add 14 = .ok (.invokeinterface 33 1, 5) := by decide +kernel
theorem dX3_add_19 : decode cX3_add 19 = .ok (.ifCond .eq 60, 3) := dk_153 0 60 (dk_at dksX3_add_0 19 rfl rfl)
theorem dX3_add_22 : decode cX3_add 22 = .ok (.aload_n 3, 1) := dk_45 (dk_at dksX3_add_0 22 rfl rfl)
theorem dX3_add_23 : decode cX3_add 23 = .ok (.invokeinterface 39 1, 5) := by decide +kernel
theorem dX3_add_28 : decode cX3_add 28 = .ok (.checkcast 43, 3) := dk_192 0 43 (dk_at dksX3_add_1 5 rfl rfl)
theorem dX3_add_31 : decode cX3_add 31 = .ok (.invokevirtual 45, 3) := dk_182 0 45 (dk_at dksX3_add_1 8 rfl rfl)
theorem dX3_add_34 : decode cX3_add 34 = .ok (.istore 4, 2) := dk_54 4 (dk_at dksX3_add_1 11 rfl rfl)
theorem dX3_add_36 : decode cX3_add 36 = .ok (.aload_n 0, 1) := dk_42 (dk_at dksX3_add_1 13 rfl rfl)
theorem dX3_add_37 : decode cX3_add 37 = .ok (.getfield 9, 3) := dk_180 0 9 (dk_at dksX3_add_1 14 rfl rfl)
theorem dX3_add_40 : decode cX3_add 40 = .ok (.aload_n 0, 1) := dk_42 (dk_at dksX3_add_1 17 rfl rfl)
theorem dX3_add_41 : decode cX3_add 41 = .ok (.getfield 49, 3) := dk_180 0 49 (dk_at dksX3_add_1 18 rfl rfl)
theorem dX3_add_44 : decode cX3_add 44 = .ok (.iload 4, 2) := dk_21 4 (dk_at dksX3_add_1 21 rfl rfl)
theorem dX3_add_46 : decode cX3_add 46 = .ok (.iastore, 1) := dk_79 (dk_at dksX3_add_1 23 rfl rfl)
theorem dX3_add_47 : decode cX3_add 47 = .ok (.aload_n 0, 1) := dk_42 (dk_at dksX3_add_2 0 rfl rfl)
theorem dX3_add_48 : decode cX3_add 48 = .ok (.getfield 15, 3) := dk_180 0 15 (dk_at dksX3_add_2 1 rfl rfl)
theorem dX3_add_51 : decode cX3_add 51 = .ok (.iload 4, 2) := dk_21 4 (dk_at dksX3_add_2 4 rfl rfl)
theorem dX3_add_53 : decode cX3_add 53 = .ok (.aload_n 0, 1) := dk_42 (dk_at dksX3_add_2 6 rfl rfl)
theorem dX3_add_54 : decode cX3_add 54 = .ok (.getfield 49, 3) := dk_180 0 49 (dk_at dksX3_add_2 7 rfl rfl)
theorem dX3_add_57 : decode cX3_add 57 = .ok (.iastore, 1) := dk_79 (dk_at dksX3_add_2 10 rfl rfl)
theorem dX3_add_58 : decode cX3_add 58 = .ok (.aload_n 0, 1) := dk_42 (dk_at dksX3_add_2 11 rfl rfl)
theorem dX3_add_59 : decode cX3_add 59 = .ok (.getfield 18, 3) := dk_180 0 18 (dk_at dksX3_add_2 12 rfl rfl)
theorem dX3_add_62 : decode cX3_add 62 = .ok (.iload 4, 2) := dk_21 4 (dk_at dksX3_add_2 15 rfl rfl)
theorem dX3_add_64 : decode cX3_add 64 = .ok (.iload_n 1, 1) := dk_27 (dk_at dksX3_add_2 17 rfl rfl)
theorem dX3_add_65 : decode cX3_add 65 = .ok (.iastore, 1) := dk_79 (dk_at dksX3_add_2 18 rfl rfl)
theorem dX3_add_66 : decode cX3_add 66 = .ok (.aload_n 0, 1) := dk_42 (dk_at dksX3_add_2 19 rfl rfl)
theorem dX3_add_67 : decode cX3_add 67 = .ok (.dup, 1) := dk_89 (dk_at dksX3_add_2 20 rfl rfl)
theorem dX3_add_68 : decode cX3_add 68 = .ok (.getfield 49, 3) := dk_180 0 49 (dk_at dksX3_add_2 21 rfl rfl)
theorem dX3_add_71 : decode cX3_add 71 = .ok (.iconst 1, 1) := dk_4 (dk_at dksX3_add_3 0 rfl rfl)
theorem dX3_add_72 : decode cX3_add 72 = .ok (.iadd, 1) := dk_96 (dk_at dksX3_add_3 1 rfl rfl)
theorem dX3_add_73 : decode cX3_add 73 = .ok (.putfield 49, 3) := dk_181 0 49 (dk_at dksX3_add_3 2 rfl rfl)
theorem dX3_add_76 : decode cX3_add 76 = .ok (.goto (-63), 3) := dk_167 255 193 (dk_at dksX3_add_3 5 rfl rfl)
theorem dX3_add_79 : decode cX3_add 79 = .ok (.return_, 1) := dk_177 (dk_at dksX3_add_3 8 rfl rfl)
theorem q108 : (Jvm.Cond.initialized "CrumbPictures$Order") ∈ lw_all := lw_g (lw_at lw_m1 3 rfl) rfl
theorem q178 : (Jvm.Cond.instantiable "CrumbPictures$Order" (4 : Nat)) ∈ lw_all := lw_g (lw_at lw_m1 73 rfl) rfl
theorem q180 : (Jvm.Cond.instanceMethod ({ cls := "CrumbPictures$Order", name := "<init>", desc := "(I)V" } : Jvm.MethodName)) ∈ lw_all := lw_g (lw_at lw_m1 75 rfl) rfl
theorem q181 : (Jvm.Cond.code ({ cls := "CrumbPictures$Order", name := "<init>", desc := "(I)V" } : Jvm.MethodName) prog_5_method_1_code (4 : Nat) (Option.none : Option Jvm.ClassFile.FieldType)) ∈ lw_all := lw_g (lw_at lw_m1 76 rfl) rfl
theorem q182 : (Jvm.Cond.methodLink "CrumbPictures$Order" (3 : Nat) ({ cls := "java/lang/Object", name := "<init>", desc := "()V" } : Jvm.MethodName)) ∈ lw_all := lw_g (lw_at lw_m1 77 rfl) rfl
theorem q183 : (Jvm.Cond.methodLink "CrumbPictures$Order" (21 : Nat) ({ cls := "CrumbPictures$Order", name := "add", desc := "(II)V" } : Jvm.MethodName)) ∈ lw_all := lw_g (lw_at lw_m1 78 rfl) rfl
theorem q184 : (Jvm.Cond.privateMethod ({ cls := "CrumbPictures$Order", name := "add", desc := "(II)V" } : Jvm.MethodName)) ∈ lw_tbl := lw_at lw_m1 79 rfl
theorem q185 : (Jvm.Cond.instanceMethod ({ cls := "CrumbPictures$Order", name := "add", desc := "(II)V" } : Jvm.MethodName)) ∈ lw_all := lw_g (lw_at lw_m1 80 rfl) rfl
theorem q186 : (Jvm.Cond.code ({ cls := "CrumbPictures$Order", name := "add", desc := "(II)V" } : Jvm.MethodName) prog_5_method_2_code (5 : Nat) (Option.none : Option Jvm.ClassFile.FieldType)) ∈ lw_all := lw_g (lw_at lw_m1 81 rfl) rfl
theorem q187 : (Jvm.Cond.classLink "CrumbPictures$Order" (25 : Nat) "CrumbPictures$Band") ∈ lw_all := lw_g (lw_at lw_m1 82 rfl) rfl
theorem q189 : (Jvm.Cond.methodLink "CrumbPictures$Order" (27 : Nat) ({ cls := "CrumbPictures$Band", name := "<init>", desc := "(II)V" } : Jvm.MethodName)) ∈ lw_all := lw_g (lw_at lw_m1 84 rfl) rfl
theorem q214 : (Jvm.Cond.methodLink "CrumbPictures$Order" (29 : Nat) ({ cls := "CrumbPictures$Band", name := "iterator", desc := "()Ljava/util/Iterator;" } : Jvm.MethodName)) ∈ lw_all := lw_g (lw_at lw_m1 109 rfl) rfl
theorem q228 : (Jvm.Cond.interfaceEntry "CrumbPictures$Order" (33 : Nat)) ∈ lw_tbl := lw_at lw_m1 123 rfl
theorem q229 : (Jvm.Cond.methodLink "CrumbPictures$Order" (33 : Nat) ({ cls := "java/util/Iterator", name := "hasNext", desc := "()Z" } : Jvm.MethodName)) ∈ lw_all := lw_g (lw_at lw_m1 124 rfl) rfl
theorem q238 : (Jvm.Cond.interfaceEntry "CrumbPictures$Order" (39 : Nat)) ∈ lw_tbl := lw_at lw_m1 133 rfl
theorem q239 : (Jvm.Cond.methodLink "CrumbPictures$Order" (39 : Nat) ({ cls := "java/util/Iterator", name := "next", desc := "()Ljava/lang/Object;" } : Jvm.MethodName)) ∈ lw_all := lw_g (lw_at lw_m1 134 rfl) rfl
theorem q339 : (Jvm.Cond.classLink "CrumbPictures$Order" (43 : Nat) "java/lang/Integer") ∈ lw_all := lw_g (lw_at lw_m1 234 rfl) rfl
theorem q340 : (Jvm.Cond.methodLink "CrumbPictures$Order" (45 : Nat) ({ cls := "java/lang/Integer", name := "intValue", desc := "()I" } : Jvm.MethodName)) ∈ lw_all := lw_g (lw_at lw_m1 235 rfl) rfl
theorem q344 : (Jvm.Cond.fieldLink "CrumbPictures$Order" (9 : Nat) "CrumbPictures$Order" "cells" "[I") ∈ lw_all := lw_g (lw_at lw_m1 239 rfl) rfl
theorem q346 : (Jvm.Cond.fieldLink "CrumbPictures$Order" (15 : Nat) "CrumbPictures$Order" "places" "[I") ∈ lw_all := lw_g (lw_at lw_m2 1 rfl) rfl
theorem q348 : (Jvm.Cond.fieldLink "CrumbPictures$Order" (18 : Nat) "CrumbPictures$Order" "bands" "[I") ∈ lw_all := lw_g (lw_at lw_m2 3 rfl) rfl
theorem q350 : (Jvm.Cond.fieldLink "CrumbPictures$Order" (49 : Nat) "CrumbPictures$Order" "many" "I") ∈ lw_all := lw_g (lw_at lw_m2 5 rfl) rfl
theorem q351 : (Jvm.Cond.laysFinal "CrumbPictures$Order" "CrumbPictures$Order" "cells" "[I") ∈ lw_all := lw_g (lw_at lw_m2 6 rfl) rfl
theorem q352 : (Jvm.Cond.soleField "CrumbPictures$Order" "cells") ∈ lw_all := lw_g (lw_at lw_m2 7 rfl) rfl
theorem q353 : (Jvm.Cond.laysFinal "CrumbPictures$Order" "CrumbPictures$Order" "places" "[I") ∈ lw_all := lw_g (lw_at lw_m2 8 rfl) rfl
theorem q354 : (Jvm.Cond.soleField "CrumbPictures$Order" "places") ∈ lw_all := lw_g (lw_at lw_m2 9 rfl) rfl
theorem q355 : (Jvm.Cond.laysFinal "CrumbPictures$Order" "CrumbPictures$Order" "bands" "[I") ∈ lw_all := lw_g (lw_at lw_m2 10 rfl) rfl
theorem q356 : (Jvm.Cond.soleField "CrumbPictures$Order" "bands") ∈ lw_all := lw_g (lw_at lw_m2 11 rfl) rfl
theorem q357 : (Jvm.Cond.lays "CrumbPictures$Order" "CrumbPictures$Order" "many" "I") ∈ lw_all := lw_g (lw_at lw_m2 12 rfl) rfl
theorem q358 : (Jvm.Cond.soleField "CrumbPictures$Order" "many") ∈ lw_all := lw_g (lw_at lw_m2 13 rfl) rfl
theorem q359 : (Jvm.Cond.superclass "CrumbPictures$Order" "java/lang/Object") ∈ lw_all := lw_g (lw_at lw_m2 14 rfl) rfl
theorem q602 : (Jvm.Cond.selects "CrumbPictures$Order" ({ cls := "java/lang/Object", name := "getClass", desc := "()Ljava/lang/Class;" } : Jvm.MethodName) ({ cls := "java/lang/Object", name := "getClass", desc := "()Ljava/lang/Class;" } : Jvm.MethodName)) ∈ lw_all := lw_g (lw_at lw_m3 17 rfl) rfl
theorem q2152 : (Jvm.Cond.castable "CrumbPictures$Order" "java/lang/Object") ∈ lw_tbl := lw_at lw_m9 127 rfl
theorem in_X3 : ∀ w ∈ wsX30, w ∈ lw_all := lw_in wsX30 [351, 353, 355, 357] (by decide +kernel) (by decide +kernel)
/-! CrumbPictures$Band -/
set_option maxRecDepth 100000
def RX4 : String := "CrumbPictures$Band"
def TX4 : u_T := fun k => match k with
  | 0 => ("CrumbPictures$Band", "band", "I", true)
  | 1 => ("CrumbPictures$Band", "levels", "I", true)
  | _ => ("CrumbPictures$Band", "at", "I", false)
def tyX4 : Nat → FieldType := fun k => match k with
  | 0 => .int
  | 1 => .int
  | _ => .int
abbrev wsX40 : List Cond := u_ws RX4 TX4 3
theorem nmX4 : ∀ a, a < 3 → ∀ b, b < 3 → a ≠ b → (TX4 a).2.1 ≠ (TX4 b).2.1 := by decide +kernel
theorem tyX4_ok : ∀ k, k < 3 → parseFieldDescriptor (TX4 k).2.2.1 = some (tyX4 k) := by decide +kernel
abbrev cX4_init : ByteArray := prog_2_method_1_code
def yX4_init : MethodName := ⟨RX4, "<init>", "(II)V"⟩
def dkwX4_init_0 : List UInt8 := [42, 183, 0, 3, 42, 2, 181, 0, 9, 42, 27, 181, 0, 15, 42, 28, 181, 0, 18, 42, 182, 0, 21, 177]
abbrev dktX4_init_0 : List UInt8 := dkwX4_init_0 ++ []
theorem dksX4_init_0 : cX4_init.data.toList.drop 0 = dktX4_init_0 := by decide +kernel
theorem dX4_init_0 : decode cX4_init 0 = .ok (.aload_n 0, 1) := dk_42 (dk_at dksX4_init_0 0 rfl rfl)
theorem dX4_init_1 : decode cX4_init 1 = .ok (.invokespecial 3, 3) := dk_183 0 3 (dk_at dksX4_init_0 1 rfl rfl)
theorem dX4_init_4 : decode cX4_init 4 = .ok (.aload_n 0, 1) := dk_42 (dk_at dksX4_init_0 4 rfl rfl)
theorem dX4_init_5 : decode cX4_init 5 = .ok (.iconst (-1), 1) := dk_2 (dk_at dksX4_init_0 5 rfl rfl)
theorem dX4_init_6 : decode cX4_init 6 = .ok (.putfield 9, 3) := dk_181 0 9 (dk_at dksX4_init_0 6 rfl rfl)
theorem dX4_init_9 : decode cX4_init 9 = .ok (.aload_n 0, 1) := dk_42 (dk_at dksX4_init_0 9 rfl rfl)
theorem dX4_init_10 : decode cX4_init 10 = .ok (.iload_n 1, 1) := dk_27 (dk_at dksX4_init_0 10 rfl rfl)
theorem dX4_init_11 : decode cX4_init 11 = .ok (.putfield 15, 3) := dk_181 0 15 (dk_at dksX4_init_0 11 rfl rfl)
theorem dX4_init_14 : decode cX4_init 14 = .ok (.aload_n 0, 1) := dk_42 (dk_at dksX4_init_0 14 rfl rfl)
theorem dX4_init_15 : decode cX4_init 15 = .ok (.iload_n 2, 1) := dk_28 (dk_at dksX4_init_0 15 rfl rfl)
theorem dX4_init_16 : decode cX4_init 16 = .ok (.putfield 18, 3) := dk_181 0 18 (dk_at dksX4_init_0 16 rfl rfl)
theorem dX4_init_19 : decode cX4_init 19 = .ok (.aload_n 0, 1) := dk_42 (dk_at dksX4_init_0 19 rfl rfl)
theorem dX4_init_20 : decode cX4_init 20 = .ok (.invokevirtual 21, 3) := dk_182 0 21 (dk_at dksX4_init_0 20 rfl rfl)
theorem dX4_init_23 : decode cX4_init 23 = .ok (.return_, 1) := dk_177 (dk_at dksX4_init_0 23 rfl rfl)
abbrev cX4_seek : ByteArray := prog_2_method_2_code
def yX4_seek : MethodName := ⟨RX4, "seek", "()V"⟩
def dkwX4_seek_2 : List UInt8 := [167, 255, 219, 177]
abbrev dktX4_seek_2 : List UInt8 := dkwX4_seek_2 ++ []
def dkwX4_seek_1 : List UInt8 := [180, 0, 18, 184, 0, 24, 42, 180, 0, 15, 159, 0, 16, 42, 89, 180, 0, 9, 4, 96, 181, 0, 9]
abbrev dktX4_seek_1 : List UInt8 := dkwX4_seek_1 ++ dktX4_seek_2
def dkwX4_seek_0 : List UInt8 := [42, 89, 180, 0, 9, 4, 96, 181, 0, 9, 42, 180, 0, 9, 16, 64, 162, 0, 34, 42, 180, 0, 9, 42]
abbrev dktX4_seek_0 : List UInt8 := dkwX4_seek_0 ++ dktX4_seek_1
theorem dksX4_seek_0 : cX4_seek.data.toList.drop 0 = dktX4_seek_0 := by decide +kernel
theorem dksX4_seek_1 : cX4_seek.data.toList.drop 24 = dktX4_seek_1 := dk_seg dksX4_seek_0 24 rfl rfl
theorem dksX4_seek_2 : cX4_seek.data.toList.drop 47 = dktX4_seek_2 := dk_seg dksX4_seek_1 23 rfl rfl
theorem dX4_seek_0 : decode cX4_seek 0 = .ok (.aload_n 0, 1) := dk_42 (dk_at dksX4_seek_0 0 rfl rfl)
theorem dX4_seek_1 : decode cX4_seek 1 = .ok (.dup, 1) := dk_89 (dk_at dksX4_seek_0 1 rfl rfl)
theorem dX4_seek_2 : decode cX4_seek 2 = .ok (.getfield 9, 3) := dk_180 0 9 (dk_at dksX4_seek_0 2 rfl rfl)
theorem dX4_seek_5 : decode cX4_seek 5 = .ok (.iconst 1, 1) := dk_4 (dk_at dksX4_seek_0 5 rfl rfl)
theorem dX4_seek_6 : decode cX4_seek 6 = .ok (.iadd, 1) := dk_96 (dk_at dksX4_seek_0 6 rfl rfl)
theorem dX4_seek_7 : decode cX4_seek 7 = .ok (.putfield 9, 3) := dk_181 0 9 (dk_at dksX4_seek_0 7 rfl rfl)
theorem dX4_seek_10 : decode cX4_seek 10 = .ok (.aload_n 0, 1) := dk_42 (dk_at dksX4_seek_0 10 rfl rfl)
theorem dX4_seek_11 : decode cX4_seek 11 = .ok (.getfield 9, 3) := dk_180 0 9 (dk_at dksX4_seek_0 11 rfl rfl)
theorem dX4_seek_14 : decode cX4_seek 14 = .ok (.bipush 64, 2) := dk_16 64 (dk_at dksX4_seek_0 14 rfl rfl)
theorem dX4_seek_16 : decode cX4_seek 16 = .ok (.if_icmp .ge 34, 3) := dk_162 0 34 (dk_at dksX4_seek_0 16 rfl rfl)
theorem dX4_seek_19 : decode cX4_seek 19 = .ok (.aload_n 0, 1) := dk_42 (dk_at dksX4_seek_0 19 rfl rfl)
theorem dX4_seek_20 : decode cX4_seek 20 = .ok (.getfield 9, 3) := dk_180 0 9 (dk_at dksX4_seek_0 20 rfl rfl)
theorem dX4_seek_23 : decode cX4_seek 23 = .ok (.aload_n 0, 1) := dk_42 (dk_at dksX4_seek_0 23 rfl rfl)
theorem dX4_seek_24 : decode cX4_seek 24 = .ok (.getfield 18, 3) := dk_180 0 18 (dk_at dksX4_seek_1 0 rfl rfl)
theorem dX4_seek_27 : decode cX4_seek 27 = .ok (.invokestatic 24, 3) := dk_184 0 24 (dk_at dksX4_seek_1 3 rfl rfl)
theorem dX4_seek_30 : decode cX4_seek 30 = .ok (.aload_n 0, 1) := dk_42 (dk_at dksX4_seek_1 6 rfl rfl)
theorem dX4_seek_31 : decode cX4_seek 31 = .ok (.getfield 15, 3) := dk_180 0 15 (dk_at dksX4_seek_1 7 rfl rfl)
theorem dX4_seek_34 : decode cX4_seek 34 = .ok (.if_icmp .eq 16, 3) := dk_159 0 16 (dk_at dksX4_seek_1 10 rfl rfl)
theorem dX4_seek_37 : decode cX4_seek 37 = .ok (.aload_n 0, 1) := dk_42 (dk_at dksX4_seek_1 13 rfl rfl)
theorem dX4_seek_38 : decode cX4_seek 38 = .ok (.dup, 1) := dk_89 (dk_at dksX4_seek_1 14 rfl rfl)
theorem dX4_seek_39 : decode cX4_seek 39 = .ok (.getfield 9, 3) := dk_180 0 9 (dk_at dksX4_seek_1 15 rfl rfl)
theorem dX4_seek_42 : decode cX4_seek 42 = .ok (.iconst 1, 1) := dk_4 (dk_at dksX4_seek_1 18 rfl rfl)
theorem dX4_seek_43 : decode cX4_seek 43 = .ok (.iadd, 1) := dk_96 (dk_at dksX4_seek_1 19 rfl rfl)
theorem dX4_seek_44 : decode cX4_seek 44 = .ok (.putfield 9, 3) := dk_181 0 9 (dk_at dksX4_seek_1 20 rfl rfl)
theorem dX4_seek_47 : decode cX4_seek 47 = .ok (.goto (-37), 3) := dk_167 255 219 (dk_at dksX4_seek_2 0 rfl rfl)
theorem dX4_seek_50 : decode cX4_seek 50 = .ok (.return_, 1) := dk_177 (dk_at dksX4_seek_2 3 rfl rfl)
abbrev cX4_iterator : ByteArray := prog_2_method_3_code
def yX4_iterator : MethodName := ⟨RX4, "iterator", "()Ljava/util/Iterator;"⟩
def dkwX4_iterator_0 : List UInt8 := [187, 0, 28, 89, 42, 183, 0, 30, 176]
abbrev dktX4_iterator_0 : List UInt8 := dkwX4_iterator_0 ++ []
theorem dksX4_iterator_0 : cX4_iterator.data.toList.drop 0 = dktX4_iterator_0 := by decide +kernel
theorem dX4_iterator_0 : decode cX4_iterator 0 = .ok (.new 28, 3) := dk_187 0 28 (dk_at dksX4_iterator_0 0 rfl rfl)
theorem dX4_iterator_3 : decode cX4_iterator 3 = .ok (.dup, 1) := dk_89 (dk_at dksX4_iterator_0 3 rfl rfl)
theorem dX4_iterator_4 : decode cX4_iterator 4 = .ok (.aload_n 0, 1) := dk_42 (dk_at dksX4_iterator_0 4 rfl rfl)
theorem dX4_iterator_5 : decode cX4_iterator 5 = .ok (.invokespecial 30, 3) := dk_183 0 30 (dk_at dksX4_iterator_0 5 rfl rfl)
theorem dX4_iterator_8 : decode cX4_iterator 8 = .ok (.areturn, 1) := dk_176 (dk_at dksX4_iterator_0 8 rfl rfl)
theorem q109 : (Jvm.Cond.initialized "CrumbPictures$Band") ∈ lw_all := lw_g (lw_at lw_m1 4 rfl) rfl
theorem q188 : (Jvm.Cond.instantiable "CrumbPictures$Band" (3 : Nat)) ∈ lw_all := lw_g (lw_at lw_m1 83 rfl) rfl
theorem q190 : (Jvm.Cond.instanceMethod ({ cls := "CrumbPictures$Band", name := "<init>", desc := "(II)V" } : Jvm.MethodName)) ∈ lw_all := lw_g (lw_at lw_m1 85 rfl) rfl
theorem q191 : (Jvm.Cond.code ({ cls := "CrumbPictures$Band", name := "<init>", desc := "(II)V" } : Jvm.MethodName) prog_2_method_1_code (3 : Nat) (Option.none : Option Jvm.ClassFile.FieldType)) ∈ lw_all := lw_g (lw_at lw_m1 86 rfl) rfl
theorem q192 : (Jvm.Cond.methodLink "CrumbPictures$Band" (3 : Nat) ({ cls := "java/lang/Object", name := "<init>", desc := "()V" } : Jvm.MethodName)) ∈ lw_all := lw_g (lw_at lw_m1 87 rfl) rfl
theorem q193 : (Jvm.Cond.methodLink "CrumbPictures$Band" (21 : Nat) ({ cls := "CrumbPictures$Band", name := "seek", desc := "()V" } : Jvm.MethodName)) ∈ lw_all := lw_g (lw_at lw_m1 88 rfl) rfl
theorem q194 : (Jvm.Cond.privateMethod ({ cls := "CrumbPictures$Band", name := "seek", desc := "()V" } : Jvm.MethodName)) ∈ lw_tbl := lw_at lw_m1 89 rfl
theorem q195 : (Jvm.Cond.instanceMethod ({ cls := "CrumbPictures$Band", name := "seek", desc := "()V" } : Jvm.MethodName)) ∈ lw_all := lw_g (lw_at lw_m1 90 rfl) rfl
theorem q196 : (Jvm.Cond.code ({ cls := "CrumbPictures$Band", name := "seek", desc := "()V" } : Jvm.MethodName) prog_2_method_2_code (1 : Nat) (Option.none : Option Jvm.ClassFile.FieldType)) ∈ lw_all := lw_g (lw_at lw_m1 91 rfl) rfl
theorem q197 : (Jvm.Cond.methodLinkNest "CrumbPictures$Band" (24 : Nat) ({ cls := "CrumbPictures", name := "bandTold", desc := "(II)I" } : Jvm.MethodName) "CrumbPictures") ∈ lw_tbl := lw_at lw_m1 92 rfl
theorem q203 : (Jvm.Cond.fieldLink "CrumbPictures$Band" (15 : Nat) "CrumbPictures$Band" "band" "I") ∈ lw_all := lw_g (lw_at lw_m1 98 rfl) rfl
theorem q204 : (Jvm.Cond.fieldLink "CrumbPictures$Band" (18 : Nat) "CrumbPictures$Band" "levels" "I") ∈ lw_all := lw_g (lw_at lw_m1 99 rfl) rfl
theorem q205 : (Jvm.Cond.fieldLink "CrumbPictures$Band" (9 : Nat) "CrumbPictures$Band" "at" "I") ∈ lw_all := lw_g (lw_at lw_m1 100 rfl) rfl
theorem q207 : (Jvm.Cond.laysFinal "CrumbPictures$Band" "CrumbPictures$Band" "band" "I") ∈ lw_all := lw_g (lw_at lw_m1 102 rfl) rfl
theorem q208 : (Jvm.Cond.soleField "CrumbPictures$Band" "band") ∈ lw_all := lw_g (lw_at lw_m1 103 rfl) rfl
theorem q209 : (Jvm.Cond.laysFinal "CrumbPictures$Band" "CrumbPictures$Band" "levels" "I") ∈ lw_all := lw_g (lw_at lw_m1 104 rfl) rfl
theorem q210 : (Jvm.Cond.soleField "CrumbPictures$Band" "levels") ∈ lw_all := lw_g (lw_at lw_m1 105 rfl) rfl
theorem q211 : (Jvm.Cond.lays "CrumbPictures$Band" "CrumbPictures$Band" "at" "I") ∈ lw_all := lw_g (lw_at lw_m1 106 rfl) rfl
theorem q212 : (Jvm.Cond.soleField "CrumbPictures$Band" "at") ∈ lw_all := lw_g (lw_at lw_m1 107 rfl) rfl
theorem q213 : (Jvm.Cond.superclass "CrumbPictures$Band" "java/lang/Object") ∈ lw_all := lw_g (lw_at lw_m1 108 rfl) rfl
theorem q215 : (Jvm.Cond.instanceMethod ({ cls := "CrumbPictures$Band", name := "iterator", desc := "()Ljava/util/Iterator;" } : Jvm.MethodName)) ∈ lw_all := lw_g (lw_at lw_m1 110 rfl) rfl
theorem q216 : (Jvm.Cond.selects "CrumbPictures$Band" ({ cls := "CrumbPictures$Band", name := "iterator", desc := "()Ljava/util/Iterator;" } : Jvm.MethodName) ({ cls := "CrumbPictures$Band", name := "iterator", desc := "()Ljava/util/Iterator;" } : Jvm.MethodName)) ∈ lw_all := lw_g (lw_at lw_m1 111 rfl) rfl
theorem q217 : (Jvm.Cond.code ({ cls := "CrumbPictures$Band", name := "iterator", desc := "()Ljava/util/Iterator;" } : Jvm.MethodName) prog_2_method_3_code (1 : Nat) (Option.some (Jvm.ClassFile.FieldType.object "java/util/Iterator"))) ∈ lw_all := lw_g (lw_at lw_m1 112 rfl) rfl
theorem q218 : (Jvm.Cond.classLink "CrumbPictures$Band" (28 : Nat) "CrumbPictures$Band$1") ∈ lw_all := lw_g (lw_at lw_m1 113 rfl) rfl
theorem q220 : (Jvm.Cond.methodLink "CrumbPictures$Band" (30 : Nat) ({ cls := "CrumbPictures$Band$1", name := "<init>", desc := "(LCrumbPictures$Band;)V" } : Jvm.MethodName)) ∈ lw_all := lw_g (lw_at lw_m1 115 rfl) rfl
theorem q599 : (Jvm.Cond.selects "CrumbPictures$Band" ({ cls := "java/lang/Object", name := "getClass", desc := "()Ljava/lang/Class;" } : Jvm.MethodName) ({ cls := "java/lang/Object", name := "getClass", desc := "()Ljava/lang/Class;" } : Jvm.MethodName)) ∈ lw_all := lw_g (lw_at lw_m3 14 rfl) rfl
theorem q2155 : (Jvm.Cond.castable "CrumbPictures$Band" "java/lang/Object") ∈ lw_tbl := lw_at lw_m9 130 rfl
theorem in_X4 : ∀ w ∈ wsX40, w ∈ lw_all := lw_in wsX40 [207, 209, 211] (by decide +kernel) (by decide +kernel)
/-! CrumbPictures$Band$1 -/
set_option maxRecDepth 100000
def RX5 : String := "CrumbPictures$Band$1"
def TX5 : u_T := fun k => match k with
  | _ => ("CrumbPictures$Band$1", "this$0", "LCrumbPictures$Band;", true)
def tyX5 : Nat → FieldType := fun k => match k with
  | _ => .object "CrumbPictures$Band"
abbrev wsX50 : List Cond := u_ws RX5 TX5 1
theorem nmX5 : ∀ a, a < 1 → ∀ b, b < 1 → a ≠ b → (TX5 a).2.1 ≠ (TX5 b).2.1 := by decide +kernel
theorem tyX5_ok : ∀ k, k < 1 → parseFieldDescriptor (TX5 k).2.2.1 = some (tyX5 k) := by decide +kernel
abbrev cX5_init : ByteArray := prog_3_method_1_code
def yX5_init : MethodName := ⟨RX5, "<init>", "(LCrumbPictures$Band;)V"⟩
def dkwX5_init_0 : List UInt8 := [42, 43, 181, 0, 3, 42, 183, 0, 9, 177]
abbrev dktX5_init_0 : List UInt8 := dkwX5_init_0 ++ []
theorem dksX5_init_0 : cX5_init.data.toList.drop 0 = dktX5_init_0 := by decide +kernel
theorem dX5_init_0 : decode cX5_init 0 = .ok (.aload_n 0, 1) := dk_42 (dk_at dksX5_init_0 0 rfl rfl)
theorem dX5_init_1 : decode cX5_init 1 = .ok (.aload_n 1, 1) := dk_43 (dk_at dksX5_init_0 1 rfl rfl)
theorem dX5_init_2 : decode cX5_init 2 = .ok (.putfield 3, 3) := dk_181 0 3 (dk_at dksX5_init_0 2 rfl rfl)
theorem dX5_init_5 : decode cX5_init 5 = .ok (.aload_n 0, 1) := dk_42 (dk_at dksX5_init_0 5 rfl rfl)
theorem dX5_init_6 : decode cX5_init 6 = .ok (.invokespecial 9, 3) := dk_183 0 9 (dk_at dksX5_init_0 6 rfl rfl)
theorem dX5_init_9 : decode cX5_init 9 = .ok (.return_, 1) := dk_177 (dk_at dksX5_init_0 9 rfl rfl)
abbrev cX5_hasNext : ByteArray := prog_3_method_2_code
def yX5_hasNext : MethodName := ⟨RX5, "hasNext", "()Z"⟩
def dkwX5_hasNext_0 : List UInt8 := [42, 180, 0, 3, 180, 0, 15, 16, 64, 162, 0, 7, 4, 167, 0, 4, 3, 172]
abbrev dktX5_hasNext_0 : List UInt8 := dkwX5_hasNext_0 ++ []
theorem dksX5_hasNext_0 : cX5_hasNext.data.toList.drop 0 = dktX5_hasNext_0 := by decide +kernel
theorem dX5_hasNext_0 : decode cX5_hasNext 0 = .ok (.aload_n 0, 1) := dk_42 (dk_at dksX5_hasNext_0 0 rfl rfl)
theorem dX5_hasNext_1 : decode cX5_hasNext 1 = .ok (.getfield 3, 3) := dk_180 0 3 (dk_at dksX5_hasNext_0 1 rfl rfl)
theorem dX5_hasNext_4 : decode cX5_hasNext 4 = .ok (.getfield 15, 3) := dk_180 0 15 (dk_at dksX5_hasNext_0 4 rfl rfl)
theorem dX5_hasNext_7 : decode cX5_hasNext 7 = .ok (.bipush 64, 2) := dk_16 64 (dk_at dksX5_hasNext_0 7 rfl rfl)
theorem dX5_hasNext_9 : decode cX5_hasNext 9 = .ok (.if_icmp .ge 7, 3) := dk_162 0 7 (dk_at dksX5_hasNext_0 9 rfl rfl)
theorem dX5_hasNext_12 : decode cX5_hasNext 12 = .ok (.iconst 1, 1) := dk_4 (dk_at dksX5_hasNext_0 12 rfl rfl)
theorem dX5_hasNext_13 : decode cX5_hasNext 13 = .ok (.goto 4, 3) := dk_167 0 4 (dk_at dksX5_hasNext_0 13 rfl rfl)
theorem dX5_hasNext_16 : decode cX5_hasNext 16 = .ok (.iconst 0, 1) := dk_3 (dk_at dksX5_hasNext_0 16 rfl rfl)
theorem dX5_hasNext_17 : decode cX5_hasNext 17 = .ok (.ireturn, 1) := dk_172 (dk_at dksX5_hasNext_0 17 rfl rfl)
abbrev cX5_next : ByteArray := prog_3_method_4_code
def yX5_next : MethodName := ⟨RX5, "next", "()Ljava/lang/Object;"⟩
theorem dX5_next_0 : decode cX5_next 0 = .ok (.aload_n 0, 1) := by decide +kernel
theorem dX5_next_1 : decode cX5_next 1 = .ok (.invokevirtual 33, 3) := by decide +kernel
theorem dX5_next_4 : decode cX5_next 4 = .ok (.areturn, 1) := by decide +kernel
abbrev cX5_next_2 : ByteArray := prog_3_method_3_code
def yX5_next_2 : MethodName := ⟨RX5, "next", "()Ljava/lang/Integer;"⟩
def dkwX5_next_2_1 : List UInt8 := [180, 0, 15, 60, 42, 180, 0, 3, 182, 0, 24, 27, 184, 0, 27, 176]
abbrev dktX5_next_2_1 : List UInt8 := dkwX5_next_2_1 ++ []
def dkwX5_next_2_0 : List UInt8 := [42, 180, 0, 3, 180, 0, 15, 16, 64, 160, 0, 11, 187, 0, 21, 89, 183, 0, 23, 191, 42, 180, 0, 3]
abbrev dktX5_next_2_0 : List UInt8 := dkwX5_next_2_0 ++ dktX5_next_2_1
theorem dksX5_next_2_0 : cX5_next_2.data.toList.drop 0 = dktX5_next_2_0 := by decide +kernel
theorem dksX5_next_2_1 : cX5_next_2.data.toList.drop 24 = dktX5_next_2_1 := dk_seg dksX5_next_2_0 24 rfl rfl
theorem dX5_next_2_0 : decode cX5_next_2 0 = .ok (.aload_n 0, 1) := dk_42 (dk_at dksX5_next_2_0 0 rfl rfl)
theorem dX5_next_2_1 : decode cX5_next_2 1 = .ok (.getfield 3, 3) := dk_180 0 3 (dk_at dksX5_next_2_0 1 rfl rfl)
theorem dX5_next_2_4 : decode cX5_next_2 4 = .ok (.getfield 15, 3) := dk_180 0 15 (dk_at dksX5_next_2_0 4 rfl rfl)
theorem dX5_next_2_7 : decode cX5_next_2 7 = .ok (.bipush 64, 2) := dk_16 64 (dk_at dksX5_next_2_0 7 rfl rfl)
theorem dX5_next_2_9 : decode cX5_next_2 9 = .ok (.if_icmp .ne 11, 3) := dk_160 0 11 (dk_at dksX5_next_2_0 9 rfl rfl)
theorem dX5_next_2_12 : decode cX5_next_2 12 = .ok (.new 21, 3) := dk_187 0 21 (dk_at dksX5_next_2_0 12 rfl rfl)
theorem dX5_next_2_15 : decode cX5_next_2 15 = .ok (.dup, 1) := dk_89 (dk_at dksX5_next_2_0 15 rfl rfl)
theorem dX5_next_2_16 : decode cX5_next_2 16 = .ok (.invokespecial 23, 3) := dk_183 0 23 (dk_at dksX5_next_2_0 16 rfl rfl)
theorem dX5_next_2_19 : decode cX5_next_2 19 = .ok (.athrow, 1) := dk_191 (dk_at dksX5_next_2_0 19 rfl rfl)
theorem dX5_next_2_20 : decode cX5_next_2 20 = .ok (.aload_n 0, 1) := dk_42 (dk_at dksX5_next_2_0 20 rfl rfl)
theorem dX5_next_2_21 : decode cX5_next_2 21 = .ok (.getfield 3, 3) := dk_180 0 3 (dk_at dksX5_next_2_0 21 rfl rfl)
theorem dX5_next_2_24 : decode cX5_next_2 24 = .ok (.getfield 15, 3) := dk_180 0 15 (dk_at dksX5_next_2_1 0 rfl rfl)
theorem dX5_next_2_27 : decode cX5_next_2 27 = .ok (.istore_n 1, 1) := dk_60 (dk_at dksX5_next_2_1 3 rfl rfl)
theorem dX5_next_2_28 : decode cX5_next_2 28 = .ok (.aload_n 0, 1) := dk_42 (dk_at dksX5_next_2_1 4 rfl rfl)
theorem dX5_next_2_29 : decode cX5_next_2 29 = .ok (.getfield 3, 3) := dk_180 0 3 (dk_at dksX5_next_2_1 5 rfl rfl)
theorem dX5_next_2_32 : decode cX5_next_2 32 = .ok (.invokevirtual 24, 3) := dk_182 0 24 (dk_at dksX5_next_2_1 8 rfl rfl)
theorem dX5_next_2_35 : decode cX5_next_2 35 = .ok (.iload_n 1, 1) := dk_27 (dk_at dksX5_next_2_1 11 rfl rfl)
theorem dX5_next_2_36 : decode cX5_next_2 36 = .ok (.invokestatic 27, 3) := dk_184 0 27 (dk_at dksX5_next_2_1 12 rfl rfl)
theorem dX5_next_2_39 : decode cX5_next_2 39 = .ok (.areturn, 1) := dk_176 (dk_at dksX5_next_2_1 15 rfl rfl)
theorem q110 : (Jvm.Cond.initialized "CrumbPictures$Band$1") ∈ lw_all := lw_g (lw_at lw_m1 5 rfl) rfl
theorem q206 : (Jvm.Cond.fieldLinkNest "CrumbPictures$Band$1" (15 : Nat) "CrumbPictures$Band" "at" "I" "CrumbPictures") ∈ lw_tbl := lw_at lw_m1 101 rfl
theorem q219 : (Jvm.Cond.instantiable "CrumbPictures$Band$1" (1 : Nat)) ∈ lw_all := lw_g (lw_at lw_m1 114 rfl) rfl
theorem q221 : (Jvm.Cond.instanceMethod ({ cls := "CrumbPictures$Band$1", name := "<init>", desc := "(LCrumbPictures$Band;)V" } : Jvm.MethodName)) ∈ lw_all := lw_g (lw_at lw_m1 116 rfl) rfl
theorem q222 : (Jvm.Cond.code ({ cls := "CrumbPictures$Band$1", name := "<init>", desc := "(LCrumbPictures$Band;)V" } : Jvm.MethodName) prog_3_method_1_code (2 : Nat) (Option.none : Option Jvm.ClassFile.FieldType)) ∈ lw_all := lw_g (lw_at lw_m1 117 rfl) rfl
theorem q223 : (Jvm.Cond.methodLink "CrumbPictures$Band$1" (9 : Nat) ({ cls := "java/lang/Object", name := "<init>", desc := "()V" } : Jvm.MethodName)) ∈ lw_all := lw_g (lw_at lw_m1 118 rfl) rfl
theorem q224 : (Jvm.Cond.fieldLink "CrumbPictures$Band$1" (3 : Nat) "CrumbPictures$Band$1" "this$0" "LCrumbPictures$Band;") ∈ lw_all := lw_g (lw_at lw_m1 119 rfl) rfl
theorem q225 : (Jvm.Cond.laysFinal "CrumbPictures$Band$1" "CrumbPictures$Band$1" "this$0" "LCrumbPictures$Band;") ∈ lw_all := lw_g (lw_at lw_m1 120 rfl) rfl
theorem q226 : (Jvm.Cond.soleField "CrumbPictures$Band$1" "this$0") ∈ lw_all := lw_g (lw_at lw_m1 121 rfl) rfl
theorem q227 : (Jvm.Cond.superclass "CrumbPictures$Band$1" "java/lang/Object") ∈ lw_all := lw_g (lw_at lw_m1 122 rfl) rfl
theorem q232 : (Jvm.Cond.castable "CrumbPictures$Band$1" "java/util/Iterator") ∈ lw_tbl := lw_at lw_m1 127 rfl
theorem q233 : (Jvm.Cond.selects "CrumbPictures$Band$1" ({ cls := "java/util/Iterator", name := "hasNext", desc := "()Z" } : Jvm.MethodName) ({ cls := "CrumbPictures$Band$1", name := "hasNext", desc := "()Z" } : Jvm.MethodName)) ∈ lw_all := lw_g (lw_at lw_m1 128 rfl) rfl
theorem q234 : (Jvm.Cond.unhidden "CrumbPictures$Band$1" "hasNext" "()Z") ∈ lw_tbl := lw_at lw_m1 129 rfl
theorem q235 : (Jvm.Cond.instanceMethod ({ cls := "CrumbPictures$Band$1", name := "hasNext", desc := "()Z" } : Jvm.MethodName)) ∈ lw_all := lw_g (lw_at lw_m1 130 rfl) rfl
theorem q236 : (Jvm.Cond.publicMethod ({ cls := "CrumbPictures$Band$1", name := "hasNext", desc := "()Z" } : Jvm.MethodName)) ∈ lw_tbl := lw_at lw_m1 131 rfl
theorem q237 : (Jvm.Cond.code ({ cls := "CrumbPictures$Band$1", name := "hasNext", desc := "()Z" } : Jvm.MethodName) prog_3_method_2_code (1 : Nat) (Option.some Jvm.ClassFile.FieldType.boolean)) ∈ lw_all := lw_g (lw_at lw_m1 132 rfl) rfl
theorem q242 : (Jvm.Cond.selects "CrumbPictures$Band$1" ({ cls := "java/util/Iterator", name := "next", desc := "()Ljava/lang/Object;" } : Jvm.MethodName) ({ cls := "CrumbPictures$Band$1", name := "next", desc := "()Ljava/lang/Object;" } : Jvm.MethodName)) ∈ lw_all := lw_g (lw_at lw_m1 137 rfl) rfl
theorem q243 : (Jvm.Cond.unhidden "CrumbPictures$Band$1" "next" "()Ljava/lang/Object;") ∈ lw_tbl := lw_at lw_m1 138 rfl
theorem q244 : (Jvm.Cond.instanceMethod ({ cls := "CrumbPictures$Band$1", name := "next", desc := "()Ljava/lang/Object;" } : Jvm.MethodName)) ∈ lw_all := lw_g (lw_at lw_m1 139 rfl) rfl
theorem q245 : (Jvm.Cond.publicMethod ({ cls := "CrumbPictures$Band$1", name := "next", desc := "()Ljava/lang/Object;" } : Jvm.MethodName)) ∈ lw_tbl := lw_at lw_m1 140 rfl
theorem q246 : (Jvm.Cond.code ({ cls := "CrumbPictures$Band$1", name := "next", desc := "()Ljava/lang/Object;" } : Jvm.MethodName) prog_3_method_4_code (1 : Nat) (Option.some (Jvm.ClassFile.FieldType.object "java/lang/Object"))) ∈ lw_all := lw_g (lw_at lw_m1 141 rfl) rfl
theorem q247 : (Jvm.Cond.methodLink "CrumbPictures$Band$1" (33 : Nat) ({ cls := "CrumbPictures$Band$1", name := "next", desc := "()Ljava/lang/Integer;" } : Jvm.MethodName)) ∈ lw_all := lw_g (lw_at lw_m1 142 rfl) rfl
theorem q248 : (Jvm.Cond.instanceMethod ({ cls := "CrumbPictures$Band$1", name := "next", desc := "()Ljava/lang/Integer;" } : Jvm.MethodName)) ∈ lw_all := lw_g (lw_at lw_m1 143 rfl) rfl
theorem q249 : (Jvm.Cond.selects "CrumbPictures$Band$1" ({ cls := "CrumbPictures$Band$1", name := "next", desc := "()Ljava/lang/Integer;" } : Jvm.MethodName) ({ cls := "CrumbPictures$Band$1", name := "next", desc := "()Ljava/lang/Integer;" } : Jvm.MethodName)) ∈ lw_all := lw_g (lw_at lw_m1 144 rfl) rfl
theorem q250 : (Jvm.Cond.code ({ cls := "CrumbPictures$Band$1", name := "next", desc := "()Ljava/lang/Integer;" } : Jvm.MethodName) prog_3_method_3_code (2 : Nat) (Option.some (Jvm.ClassFile.FieldType.object "java/lang/Integer"))) ∈ lw_all := lw_g (lw_at lw_m1 145 rfl) rfl
theorem q251 : (Jvm.Cond.classLink "CrumbPictures$Band$1" (21 : Nat) "java/util/NoSuchElementException") ∈ lw_all := lw_g (lw_at lw_m1 146 rfl) rfl
theorem q295 : (Jvm.Cond.methodLink "CrumbPictures$Band$1" (23 : Nat) ({ cls := "java/util/NoSuchElementException", name := "<init>", desc := "()V" } : Jvm.MethodName)) ∈ lw_all := lw_g (lw_at lw_m1 190 rfl) rfl
theorem q318 : (Jvm.Cond.methodLinkNest "CrumbPictures$Band$1" (24 : Nat) ({ cls := "CrumbPictures$Band", name := "seek", desc := "()V" } : Jvm.MethodName) "CrumbPictures") ∈ lw_tbl := lw_at lw_m1 213 rfl
theorem q319 : (Jvm.Cond.methodLink "CrumbPictures$Band$1" (27 : Nat) ({ cls := "java/lang/Integer", name := "valueOf", desc := "(I)Ljava/lang/Integer;" } : Jvm.MethodName)) ∈ lw_all := lw_g (lw_at lw_m1 214 rfl) rfl
theorem q600 : (Jvm.Cond.selects "CrumbPictures$Band$1" ({ cls := "java/lang/Object", name := "getClass", desc := "()Ljava/lang/Class;" } : Jvm.MethodName) ({ cls := "java/lang/Object", name := "getClass", desc := "()Ljava/lang/Class;" } : Jvm.MethodName)) ∈ lw_all := lw_g (lw_at lw_m3 15 rfl) rfl
theorem q2156 : (Jvm.Cond.castable "CrumbPictures$Band$1" "java/lang/Object") ∈ lw_tbl := lw_at lw_m9 131 rfl
theorem in_X5 : ∀ w ∈ wsX50, w ∈ lw_all := lw_in wsX50 [225] (by decide +kernel) (by decide +kernel)
/-! CrumbPictures$Splitter -/
set_option maxRecDepth 100000
def RX6 : String := "CrumbPictures$Splitter"
def TX6 : u_T := fun k => match k with
  | _ => ("CrumbPictures$Splitter", "line", "[I", true)
def tyX6 : Nat → FieldType := fun k => match k with
  | _ => .array .int
abbrev wsX60 : List Cond := u_ws RX6 TX6 1
theorem nmX6 : ∀ a, a < 1 → ∀ b, b < 1 → a ≠ b → (TX6 a).2.1 ≠ (TX6 b).2.1 := by decide +kernel
theorem tyX6_ok : ∀ k, k < 1 → parseFieldDescriptor (TX6 k).2.2.1 = some (tyX6 k) := by decide +kernel
abbrev cX6_init : ByteArray := prog_8_method_1_code
def yX6_init : MethodName := ⟨RX6, "<init>", "()V"⟩
def dkwX6_init_0 : List UInt8 := [42, 183, 0, 3, 42, 16, 8, 188, 10, 181, 0, 9, 177]
abbrev dktX6_init_0 : List UInt8 := dkwX6_init_0 ++ []
theorem dksX6_init_0 : cX6_init.data.toList.drop 0 = dktX6_init_0 := by decide +kernel
theorem dX6_init_0 : decode cX6_init 0 = .ok (.aload_n 0, 1) := dk_42 (dk_at dksX6_init_0 0 rfl rfl)
theorem dX6_init_1 : decode cX6_init 1 = .ok (.invokespecial 3, 3) := dk_183 0 3 (dk_at dksX6_init_0 1 rfl rfl)
theorem dX6_init_4 : decode cX6_init 4 = .ok (.aload_n 0, 1) := dk_42 (dk_at dksX6_init_0 4 rfl rfl)
theorem dX6_init_5 : decode cX6_init 5 = .ok (.bipush 8, 2) := dk_16 8 (dk_at dksX6_init_0 5 rfl rfl)
theorem dX6_init_7 : decode cX6_init 7 = .ok (.newarray .int, 2) := dk_188_10 (dk_at dksX6_init_0 7 rfl rfl)
theorem dX6_init_9 : decode cX6_init 9 = .ok (.putfield 9, 3) := dk_181 0 9 (dk_at dksX6_init_0 9 rfl rfl)
theorem dX6_init_12 : decode cX6_init 12 = .ok (.return_, 1) := dk_177 (dk_at dksX6_init_0 12 rfl rfl)
abbrev cX6_split : ByteArray := prog_8_method_5_code
def yX6_split : MethodName := ⟨RX6, "split", "([I[II)[I"⟩
def dkwX6_split_3 : List UInt8 := [16, 8, 21, 5, 182, 0, 33, 132, 6, 1, 167, 255, 235, 132, 4, 1, 167, 255, 182, 44, 176]
abbrev dktX6_split_3 : List UInt8 := dkwX6_split_3 ++ []
def dkwX6_split_2 : List UInt8 := [182, 0, 33, 132, 6, 1, 167, 255, 233, 3, 54, 6, 21, 6, 21, 5, 162, 0, 20, 42, 44, 21, 6]
abbrev dktX6_split_2 : List UInt8 := dkwX6_split_2 ++ dktX6_split_3
def dkwX6_split_1 : List UInt8 := [122, 54, 5, 3, 54, 6, 21, 6, 21, 5, 162, 0, 22, 42, 44, 16, 8, 21, 6, 104, 4, 21, 5]
abbrev dktX6_split_1 : List UInt8 := dkwX6_split_1 ++ dktX6_split_2
def dkwX6_split_0 : List UInt8 := [43, 3, 44, 3, 16, 64, 184, 0, 27, 4, 54, 4, 21, 4, 29, 163, 0, 74, 16, 8, 21, 4, 4, 100]
abbrev dktX6_split_0 : List UInt8 := dkwX6_split_0 ++ dktX6_split_1
theorem dksX6_split_0 : cX6_split.data.toList.drop 0 = dktX6_split_0 := by decide +kernel
theorem dksX6_split_1 : cX6_split.data.toList.drop 24 = dktX6_split_1 := dk_seg dksX6_split_0 24 rfl rfl
theorem dksX6_split_2 : cX6_split.data.toList.drop 47 = dktX6_split_2 := dk_seg dksX6_split_1 23 rfl rfl
theorem dksX6_split_3 : cX6_split.data.toList.drop 70 = dktX6_split_3 := dk_seg dksX6_split_2 23 rfl rfl
theorem dX6_split_0 : decode cX6_split 0 = .ok (.aload_n 1, 1) := dk_43 (dk_at dksX6_split_0 0 rfl rfl)
theorem dX6_split_1 : decode cX6_split 1 = .ok (.iconst 0, 1) := dk_3 (dk_at dksX6_split_0 1 rfl rfl)
theorem dX6_split_2 : decode cX6_split 2 = .ok (.aload_n 2, 1) := dk_44 (dk_at dksX6_split_0 2 rfl rfl)
theorem dX6_split_3 : decode cX6_split 3 = .ok (.iconst 0, 1) := dk_3 (dk_at dksX6_split_0 3 rfl rfl)
theorem dX6_split_4 : decode cX6_split 4 = .ok (.bipush 64, 2) := dk_16 64 (dk_at dksX6_split_0 4 rfl rfl)
theorem dX6_split_6 : decode cX6_split 6 = .ok (.invokestatic 27, 3) := dk_184 0 27 (dk_at dksX6_split_0 6 rfl rfl)
theorem dX6_split_9 : decode cX6_split 9 = .ok (.iconst 1, 1) := dk_4 (dk_at dksX6_split_0 9 rfl rfl)
theorem dX6_split_10 : decode cX6_split 10 = .ok (.istore 4, 2) := dk_54 4 (dk_at dksX6_split_0 10 rfl rfl)
theorem dX6_split_12 : decode cX6_split 12 = .ok (.iload 4, 2) := dk_21 4 (dk_at dksX6_split_0 12 rfl rfl)
theorem dX6_split_14 : decode cX6_split 14 = .ok (.iload_n 3, 1) := dk_29 (dk_at dksX6_split_0 14 rfl rfl)
theorem dX6_split_15 : decode cX6_split 15 = .ok (.if_icmp .gt 74, 3) := dk_163 0 74 (dk_at dksX6_split_0 15 rfl rfl)
theorem dX6_split_18 : decode cX6_split 18 = .ok (.bipush 8, 2) := dk_16 8 (dk_at dksX6_split_0 18 rfl rfl)
theorem dX6_split_20 : decode cX6_split 20 = .ok (.iload 4, 2) := dk_21 4 (dk_at dksX6_split_0 20 rfl rfl)
theorem dX6_split_22 : decode cX6_split 22 = .ok (.iconst 1, 1) := dk_4 (dk_at dksX6_split_0 22 rfl rfl)
theorem dX6_split_23 : decode cX6_split 23 = .ok (.isub, 1) := dk_100 (dk_at dksX6_split_0 23 rfl rfl)
theorem dX6_split_24 : decode cX6_split 24 = .ok (.ishr, 1) := dk_122 (dk_at dksX6_split_1 0 rfl rfl)
theorem dX6_split_25 : decode cX6_split 25 = .ok (.istore 5, 2) := dk_54 5 (dk_at dksX6_split_1 1 rfl rfl)
theorem dX6_split_27 : decode cX6_split 27 = .ok (.iconst 0, 1) := dk_3 (dk_at dksX6_split_1 3 rfl rfl)
theorem dX6_split_28 : decode cX6_split 28 = .ok (.istore 6, 2) := dk_54 6 (dk_at dksX6_split_1 4 rfl rfl)
theorem dX6_split_30 : decode cX6_split 30 = .ok (.iload 6, 2) := dk_21 6 (dk_at dksX6_split_1 6 rfl rfl)
theorem dX6_split_32 : decode cX6_split 32 = .ok (.iload 5, 2) := dk_21 5 (dk_at dksX6_split_1 8 rfl rfl)
theorem dX6_split_34 : decode cX6_split 34 = .ok (.if_icmp .ge 22, 3) := dk_162 0 22 (dk_at dksX6_split_1 10 rfl rfl)
theorem dX6_split_37 : decode cX6_split 37 = .ok (.aload_n 0, 1) := dk_42 (dk_at dksX6_split_1 13 rfl rfl)
theorem dX6_split_38 : decode cX6_split 38 = .ok (.aload_n 2, 1) := dk_44 (dk_at dksX6_split_1 14 rfl rfl)
theorem dX6_split_39 : decode cX6_split 39 = .ok (.bipush 8, 2) := dk_16 8 (dk_at dksX6_split_1 15 rfl rfl)
theorem dX6_split_41 : decode cX6_split 41 = .ok (.iload 6, 2) := dk_21 6 (dk_at dksX6_split_1 17 rfl rfl)
theorem dX6_split_43 : decode cX6_split 43 = .ok (.imul, 1) := dk_104 (dk_at dksX6_split_1 19 rfl rfl)
theorem dX6_split_44 : decode cX6_split 44 = .ok (.iconst 1, 1) := dk_4 (dk_at dksX6_split_1 20 rfl rfl)
theorem dX6_split_45 : decode cX6_split 45 = .ok (.iload 5, 2) := dk_21 5 (dk_at dksX6_split_1 21 rfl rfl)
theorem dX6_split_47 : decode cX6_split 47 = .ok (.invokevirtual 33, 3) := dk_182 0 33 (dk_at dksX6_split_2 0 rfl rfl)
theorem dX6_split_50 : decode cX6_split 50 = .ok (.iinc 6 1, 3) := dk_132 6 1 (dk_at dksX6_split_2 3 rfl rfl)
theorem dX6_split_53 : decode cX6_split 53 = .ok (.goto (-23), 3) := dk_167 255 233 (dk_at dksX6_split_2 6 rfl rfl)
theorem dX6_split_56 : decode cX6_split 56 = .ok (.iconst 0, 1) := dk_3 (dk_at dksX6_split_2 9 rfl rfl)
theorem dX6_split_57 : decode cX6_split 57 = .ok (.istore 6, 2) := dk_54 6 (dk_at dksX6_split_2 10 rfl rfl)
theorem dX6_split_59 : decode cX6_split 59 = .ok (.iload 6, 2) := dk_21 6 (dk_at dksX6_split_2 12 rfl rfl)
theorem dX6_split_61 : decode cX6_split 61 = .ok (.iload 5, 2) := dk_21 5 (dk_at dksX6_split_2 14 rfl rfl)
theorem dX6_split_63 : decode cX6_split 63 = .ok (.if_icmp .ge 20, 3) := dk_162 0 20 (dk_at dksX6_split_2 16 rfl rfl)
theorem dX6_split_66 : decode cX6_split 66 = .ok (.aload_n 0, 1) := dk_42 (dk_at dksX6_split_2 19 rfl rfl)
theorem dX6_split_67 : decode cX6_split 67 = .ok (.aload_n 2, 1) := dk_44 (dk_at dksX6_split_2 20 rfl rfl)
theorem dX6_split_68 : decode cX6_split 68 = .ok (.iload 6, 2) := dk_21 6 (dk_at dksX6_split_2 21 rfl rfl)
theorem dX6_split_70 : decode cX6_split 70 = .ok (.bipush 8, 2) := dk_16 8 (dk_at dksX6_split_3 0 rfl rfl)
theorem dX6_split_72 : decode cX6_split 72 = .ok (.iload 5, 2) := dk_21 5 (dk_at dksX6_split_3 2 rfl rfl)
theorem dX6_split_74 : decode cX6_split 74 = .ok (.invokevirtual 33, 3) := dk_182 0 33 (dk_at dksX6_split_3 4 rfl rfl)
theorem dX6_split_77 : decode cX6_split 77 = .ok (.iinc 6 1, 3) := dk_132 6 1 (dk_at dksX6_split_3 7 rfl rfl)
theorem dX6_split_80 : decode cX6_split 80 = .ok (.goto (-21), 3) := dk_167 255 235 (dk_at dksX6_split_3 10 rfl rfl)
theorem dX6_split_83 : decode cX6_split 83 = .ok (.iinc 4 1, 3) := dk_132 4 1 (dk_at dksX6_split_3 13 rfl rfl)
theorem dX6_split_86 : decode cX6_split 86 = .ok (.goto (-74), 3) := dk_167 255 182 (dk_at dksX6_split_3 16 rfl rfl)
theorem dX6_split_89 : decode cX6_split 89 = .ok (.aload_n 2, 1) := dk_44 (dk_at dksX6_split_3 19 rfl rfl)
theorem dX6_split_90 : decode cX6_split 90 = .ok (.areturn, 1) := dk_176 (dk_at dksX6_split_3 20 rfl rfl)
abbrev cX6_split_2 : ByteArray := prog_8_method_2_code
def yX6_split_2 : MethodName := ⟨RX6, "split", "([IIII)V"⟩
def dkwX6_split_2_3 : List UInt8 := [132, 6, 1, 167, 255, 191, 42, 43, 28, 29, 21, 4, 182, 0, 19, 177]
abbrev dktX6_split_2_3 : List UInt8 := dkwX6_split_2_3 ++ []
def dkwX6_split_2_2 : List UInt8 := [21, 7, 21, 8, 184, 0, 15, 79, 42, 180, 0, 9, 21, 5, 21, 6, 96, 21, 7, 21, 8, 100, 79]
abbrev dktX6_split_2_2 : List UInt8 := dkwX6_split_2_2 ++ dktX6_split_2_3
def dkwX6_split_2_1 : List UInt8 := [96, 46, 54, 7, 43, 28, 5, 21, 6, 104, 4, 96, 29, 104, 96, 46, 54, 8, 42, 180, 0, 9, 21, 6]
abbrev dktX6_split_2_1 : List UInt8 := dkwX6_split_2_1 ++ dktX6_split_2_2
def dkwX6_split_2_0 : List UInt8 := [21, 4, 5, 108, 54, 5, 3, 54, 6, 21, 6, 21, 5, 162, 0, 64, 43, 28, 5, 21, 6, 104, 29, 104]
abbrev dktX6_split_2_0 : List UInt8 := dkwX6_split_2_0 ++ dktX6_split_2_1
theorem dksX6_split_2_0 : cX6_split_2.data.toList.drop 0 = dktX6_split_2_0 := by decide +kernel
theorem dksX6_split_2_1 : cX6_split_2.data.toList.drop 24 = dktX6_split_2_1 := dk_seg dksX6_split_2_0 24 rfl rfl
theorem dksX6_split_2_2 : cX6_split_2.data.toList.drop 48 = dktX6_split_2_2 := dk_seg dksX6_split_2_1 24 rfl rfl
theorem dksX6_split_2_3 : cX6_split_2.data.toList.drop 71 = dktX6_split_2_3 := dk_seg dksX6_split_2_2 23 rfl rfl
theorem dX6_split_2_0 : decode cX6_split_2 0 = .ok (.iload 4, 2) := dk_21 4 (dk_at dksX6_split_2_0 0 rfl rfl)
theorem dX6_split_2_2 : decode cX6_split_2 2 = .ok (.iconst 2, 1) := dk_5 (dk_at dksX6_split_2_0 2 rfl rfl)
theorem dX6_split_2_3 : decode cX6_split_2 3 = .ok (.idiv, 1) := dk_108 (dk_at dksX6_split_2_0 3 rfl rfl)
theorem dX6_split_2_4 : decode cX6_split_2 4 = .ok (.istore 5, 2) := dk_54 5 (dk_at dksX6_split_2_0 4 rfl rfl)
theorem dX6_split_2_6 : decode cX6_split_2 6 = .ok (.iconst 0, 1) := dk_3 (dk_at dksX6_split_2_0 6 rfl rfl)
theorem dX6_split_2_7 : decode cX6_split_2 7 = .ok (.istore 6, 2) := dk_54 6 (dk_at dksX6_split_2_0 7 rfl rfl)
theorem dX6_split_2_9 : decode cX6_split_2 9 = .ok (.iload 6, 2) := dk_21 6 (dk_at dksX6_split_2_0 9 rfl rfl)
theorem dX6_split_2_11 : decode cX6_split_2 11 = .ok (.iload 5, 2) := dk_21 5 (dk_at dksX6_split_2_0 11 rfl rfl)
theorem dX6_split_2_13 : decode cX6_split_2 13 = .ok (.if_icmp .ge 64, 3) := dk_162 0 64 (dk_at dksX6_split_2_0 13 rfl rfl)
theorem dX6_split_2_16 : decode cX6_split_2 16 = .ok (.aload_n 1, 1) := dk_43 (dk_at dksX6_split_2_0 16 rfl rfl)
theorem dX6_split_2_17 : decode cX6_split_2 17 = .ok (.iload_n 2, 1) := dk_28 (dk_at dksX6_split_2_0 17 rfl rfl)
theorem dX6_split_2_18 : decode cX6_split_2 18 = .ok (.iconst 2, 1) := dk_5 (dk_at dksX6_split_2_0 18 rfl rfl)
theorem dX6_split_2_19 : decode cX6_split_2 19 = .ok (.iload 6, 2) := dk_21 6 (dk_at dksX6_split_2_0 19 rfl rfl)
theorem dX6_split_2_21 : decode cX6_split_2 21 = .ok (.imul, 1) := dk_104 (dk_at dksX6_split_2_0 21 rfl rfl)
theorem dX6_split_2_22 : decode cX6_split_2 22 = .ok (.iload_n 3, 1) := dk_29 (dk_at dksX6_split_2_0 22 rfl rfl)
theorem dX6_split_2_23 : decode cX6_split_2 23 = .ok (.imul, 1) := dk_104 (dk_at dksX6_split_2_0 23 rfl rfl)
theorem dX6_split_2_24 : decode cX6_split_2 24 = .ok (.iadd, 1) := dk_96 (dk_at dksX6_split_2_1 0 rfl rfl)
theorem dX6_split_2_25 : decode cX6_split_2 25 = .ok (.iaload, 1) := dk_46 (dk_at dksX6_split_2_1 1 rfl rfl)
theorem dX6_split_2_26 : decode cX6_split_2 26 = .ok (.istore 7, 2) := dk_54 7 (dk_at dksX6_split_2_1 2 rfl rfl)
theorem dX6_split_2_28 : decode cX6_split_2 28 = .ok (.aload_n 1, 1) := dk_43 (dk_at dksX6_split_2_1 4 rfl rfl)
theorem dX6_split_2_29 : decode cX6_split_2 29 = .ok (.iload_n 2, 1) := dk_28 (dk_at dksX6_split_2_1 5 rfl rfl)
theorem dX6_split_2_30 : decode cX6_split_2 30 = .ok (.iconst 2, 1) := dk_5 (dk_at dksX6_split_2_1 6 rfl rfl)
theorem dX6_split_2_31 : decode cX6_split_2 31 = .ok (.iload 6, 2) := dk_21 6 (dk_at dksX6_split_2_1 7 rfl rfl)
theorem dX6_split_2_33 : decode cX6_split_2 33 = .ok (.imul, 1) := dk_104 (dk_at dksX6_split_2_1 9 rfl rfl)
theorem dX6_split_2_34 : decode cX6_split_2 34 = .ok (.iconst 1, 1) := dk_4 (dk_at dksX6_split_2_1 10 rfl rfl)
theorem dX6_split_2_35 : decode cX6_split_2 35 = .ok (.iadd, 1) := dk_96 (dk_at dksX6_split_2_1 11 rfl rfl)
theorem dX6_split_2_36 : decode cX6_split_2 36 = .ok (.iload_n 3, 1) := dk_29 (dk_at dksX6_split_2_1 12 rfl rfl)
theorem dX6_split_2_37 : decode cX6_split_2 37 = .ok (.imul, 1) := dk_104 (dk_at dksX6_split_2_1 13 rfl rfl)
theorem dX6_split_2_38 : decode cX6_split_2 38 = .ok (.iadd, 1) := dk_96 (dk_at dksX6_split_2_1 14 rfl rfl)
theorem dX6_split_2_39 : decode cX6_split_2 39 = .ok (.iaload, 1) := dk_46 (dk_at dksX6_split_2_1 15 rfl rfl)
theorem dX6_split_2_40 : decode cX6_split_2 40 = .ok (.istore 8, 2) := dk_54 8 (dk_at dksX6_split_2_1 16 rfl rfl)
theorem dX6_split_2_42 : decode cX6_split_2 42 = .ok (.aload_n 0, 1) := dk_42 (dk_at dksX6_split_2_1 18 rfl rfl)
theorem dX6_split_2_43 : decode cX6_split_2 43 = .ok (.getfield 9, 3) := dk_180 0 9 (dk_at dksX6_split_2_1 19 rfl rfl)
theorem dX6_split_2_46 : decode cX6_split_2 46 = .ok (.iload 6, 2) := dk_21 6 (dk_at dksX6_split_2_1 22 rfl rfl)
theorem dX6_split_2_48 : decode cX6_split_2 48 = .ok (.iload 7, 2) := dk_21 7 (dk_at dksX6_split_2_2 0 rfl rfl)
theorem dX6_split_2_50 : decode cX6_split_2 50 = .ok (.iload 8, 2) := dk_21 8 (dk_at dksX6_split_2_2 2 rfl rfl)
theorem dX6_split_2_52 : decode cX6_split_2 52 = .ok (.invokestatic 15, 3) := dk_184 0 15 (dk_at dksX6_split_2_2 4 rfl rfl)
theorem dX6_split_2_55 : decode cX6_split_2 55 = .ok (.iastore, 1) := dk_79 (dk_at dksX6_split_2_2 7 rfl rfl)
theorem dX6_split_2_56 : decode cX6_split_2 56 = .ok (.aload_n 0, 1) := dk_42 (dk_at dksX6_split_2_2 8 rfl rfl)
theorem dX6_split_2_57 : decode cX6_split_2 57 = .ok (.getfield 9, 3) := dk_180 0 9 (dk_at dksX6_split_2_2 9 rfl rfl)
theorem dX6_split_2_60 : decode cX6_split_2 60 = .ok (.iload 5, 2) := dk_21 5 (dk_at dksX6_split_2_2 12 rfl rfl)
theorem dX6_split_2_62 : decode cX6_split_2 62 = .ok (.iload 6, 2) := dk_21 6 (dk_at dksX6_split_2_2 14 rfl rfl)
theorem dX6_split_2_64 : decode cX6_split_2 64 = .ok (.iadd, 1) := dk_96 (dk_at dksX6_split_2_2 16 rfl rfl)
theorem dX6_split_2_65 : decode cX6_split_2 65 = .ok (.iload 7, 2) := dk_21 7 (dk_at dksX6_split_2_2 17 rfl rfl)
theorem dX6_split_2_67 : decode cX6_split_2 67 = .ok (.iload 8, 2) := dk_21 8 (dk_at dksX6_split_2_2 19 rfl rfl)
theorem dX6_split_2_69 : decode cX6_split_2 69 = .ok (.isub, 1) := dk_100 (dk_at dksX6_split_2_2 21 rfl rfl)
theorem dX6_split_2_70 : decode cX6_split_2 70 = .ok (.iastore, 1) := dk_79 (dk_at dksX6_split_2_2 22 rfl rfl)
theorem dX6_split_2_71 : decode cX6_split_2 71 = .ok (.iinc 6 1, 3) := dk_132 6 1 (dk_at dksX6_split_2_3 0 rfl rfl)
theorem dX6_split_2_74 : decode cX6_split_2 74 = .ok (.goto (-65), 3) := dk_167 255 191 (dk_at dksX6_split_2_3 3 rfl rfl)
theorem dX6_split_2_77 : decode cX6_split_2 77 = .ok (.aload_n 0, 1) := dk_42 (dk_at dksX6_split_2_3 6 rfl rfl)
theorem dX6_split_2_78 : decode cX6_split_2 78 = .ok (.aload_n 1, 1) := dk_43 (dk_at dksX6_split_2_3 7 rfl rfl)
theorem dX6_split_2_79 : decode cX6_split_2 79 = .ok (.iload_n 2, 1) := dk_28 (dk_at dksX6_split_2_3 8 rfl rfl)
theorem dX6_split_2_80 : decode cX6_split_2 80 = .ok (.iload_n 3, 1) := dk_29 (dk_at dksX6_split_2_3 9 rfl rfl)
theorem dX6_split_2_81 : decode cX6_split_2 81 = .ok (.iload 4, 2) := dk_21 4 (dk_at dksX6_split_2_3 10 rfl rfl)
theorem dX6_split_2_83 : decode cX6_split_2 83 = .ok (.invokevirtual 19, 3) := dk_182 0 19 (dk_at dksX6_split_2_3 12 rfl rfl)
theorem dX6_split_2_86 : decode cX6_split_2 86 = .ok (.return_, 1) := dk_177 (dk_at dksX6_split_2_3 15 rfl rfl)
abbrev cX6_put : ByteArray := prog_8_method_4_code
def yX6_put : MethodName := ⟨RX6, "put", "([IIII)V"⟩
def dkwX6_put_1 : List UInt8 := [79, 132, 5, 1, 167, 255, 231, 177]
abbrev dktX6_put_1 : List UInt8 := dkwX6_put_1 ++ []
def dkwX6_put_0 : List UInt8 := [3, 54, 5, 21, 5, 21, 4, 162, 0, 24, 43, 28, 21, 5, 29, 104, 96, 42, 180, 0, 9, 21, 5, 46]
abbrev dktX6_put_0 : List UInt8 := dkwX6_put_0 ++ dktX6_put_1
theorem dksX6_put_0 : cX6_put.data.toList.drop 0 = dktX6_put_0 := by decide +kernel
theorem dksX6_put_1 : cX6_put.data.toList.drop 24 = dktX6_put_1 := dk_seg dksX6_put_0 24 rfl rfl
theorem dX6_put_0 : decode cX6_put 0 = .ok (.iconst 0, 1) := dk_3 (dk_at dksX6_put_0 0 rfl rfl)
theorem dX6_put_1 : decode cX6_put 1 = .ok (.istore 5, 2) := dk_54 5 (dk_at dksX6_put_0 1 rfl rfl)
theorem dX6_put_3 : decode cX6_put 3 = .ok (.iload 5, 2) := dk_21 5 (dk_at dksX6_put_0 3 rfl rfl)
theorem dX6_put_5 : decode cX6_put 5 = .ok (.iload 4, 2) := dk_21 4 (dk_at dksX6_put_0 5 rfl rfl)
theorem dX6_put_7 : decode cX6_put 7 = .ok (.if_icmp .ge 24, 3) := dk_162 0 24 (dk_at dksX6_put_0 7 rfl rfl)
theorem dX6_put_10 : decode cX6_put 10 = .ok (.aload_n 1, 1) := dk_43 (dk_at dksX6_put_0 10 rfl rfl)
theorem dX6_put_11 : decode cX6_put 11 = .ok (.iload_n 2, 1) := dk_28 (dk_at dksX6_put_0 11 rfl rfl)
theorem dX6_put_12 : decode cX6_put 12 = .ok (.iload 5, 2) := dk_21 5 (dk_at dksX6_put_0 12 rfl rfl)
theorem dX6_put_14 : decode cX6_put 14 = .ok (.iload_n 3, 1) := dk_29 (dk_at dksX6_put_0 14 rfl rfl)
theorem dX6_put_15 : decode cX6_put 15 = .ok (.imul, 1) := dk_104 (dk_at dksX6_put_0 15 rfl rfl)
theorem dX6_put_16 : decode cX6_put 16 = .ok (.iadd, 1) := dk_96 (dk_at dksX6_put_0 16 rfl rfl)
theorem dX6_put_17 : decode cX6_put 17 = .ok (.aload_n 0, 1) := dk_42 (dk_at dksX6_put_0 17 rfl rfl)
theorem dX6_put_18 : decode cX6_put 18 = .ok (.getfield 9, 3) := dk_180 0 9 (dk_at dksX6_put_0 18 rfl rfl)
theorem dX6_put_21 : decode cX6_put 21 = .ok (.iload 5, 2) := dk_21 5 (dk_at dksX6_put_0 21 rfl rfl)
theorem dX6_put_23 : decode cX6_put 23 = .ok (.iaload, 1) := dk_46 (dk_at dksX6_put_0 23 rfl rfl)
theorem dX6_put_24 : decode cX6_put 24 = .ok (.iastore, 1) := dk_79 (dk_at dksX6_put_1 0 rfl rfl)
theorem dX6_put_25 : decode cX6_put 25 = .ok (.iinc 5 1, 3) := dk_132 5 1 (dk_at dksX6_put_1 1 rfl rfl)
theorem dX6_put_28 : decode cX6_put 28 = .ok (.goto (-25), 3) := dk_167 255 231 (dk_at dksX6_put_1 4 rfl rfl)
theorem dX6_put_31 : decode cX6_put 31 = .ok (.return_, 1) := dk_177 (dk_at dksX6_put_1 7 rfl rfl)
abbrev cX6_join : ByteArray := prog_8_method_6_code
def yX6_join : MethodName := ⟨RX6, "join", "([I[II)[I"⟩
def dkwX6_join_3 : List UInt8 := [21, 5, 182, 0, 36, 132, 6, 1, 167, 255, 233, 132, 4, 255, 167, 255, 183, 44, 176]
abbrev dktX6_join_3 : List UInt8 := dkwX6_join_3 ++ []
def dkwX6_join_2 : List UInt8 := [132, 6, 1, 167, 255, 235, 3, 54, 6, 21, 6, 21, 5, 162, 0, 22, 42, 44, 16, 8, 21, 6, 104, 4]
abbrev dktX6_join_2 : List UInt8 := dkwX6_join_2 ++ dktX6_join_3
def dkwX6_join_1 : List UInt8 := [54, 5, 3, 54, 6, 21, 6, 21, 5, 162, 0, 20, 42, 44, 21, 6, 16, 8, 21, 5, 182, 0, 36]
abbrev dktX6_join_1 : List UInt8 := dkwX6_join_1 ++ dktX6_join_2
def dkwX6_join_0 : List UInt8 := [43, 3, 44, 3, 16, 64, 184, 0, 27, 29, 54, 4, 21, 4, 158, 0, 74, 16, 8, 21, 4, 4, 100, 122]
abbrev dktX6_join_0 : List UInt8 := dkwX6_join_0 ++ dktX6_join_1
theorem dksX6_join_0 : cX6_join.data.toList.drop 0 = dktX6_join_0 := by decide +kernel
theorem dksX6_join_1 : cX6_join.data.toList.drop 24 = dktX6_join_1 := dk_seg dksX6_join_0 24 rfl rfl
theorem dksX6_join_2 : cX6_join.data.toList.drop 47 = dktX6_join_2 := dk_seg dksX6_join_1 23 rfl rfl
theorem dksX6_join_3 : cX6_join.data.toList.drop 71 = dktX6_join_3 := dk_seg dksX6_join_2 24 rfl rfl
theorem dX6_join_0 : decode cX6_join 0 = .ok (.aload_n 1, 1) := dk_43 (dk_at dksX6_join_0 0 rfl rfl)
theorem dX6_join_1 : decode cX6_join 1 = .ok (.iconst 0, 1) := dk_3 (dk_at dksX6_join_0 1 rfl rfl)
theorem dX6_join_2 : decode cX6_join 2 = .ok (.aload_n 2, 1) := dk_44 (dk_at dksX6_join_0 2 rfl rfl)
theorem dX6_join_3 : decode cX6_join 3 = .ok (.iconst 0, 1) := dk_3 (dk_at dksX6_join_0 3 rfl rfl)
theorem dX6_join_4 : decode cX6_join 4 = .ok (.bipush 64, 2) := dk_16 64 (dk_at dksX6_join_0 4 rfl rfl)
theorem dX6_join_6 : decode cX6_join 6 = .ok (.invokestatic 27, 3) := dk_184 0 27 (dk_at dksX6_join_0 6 rfl rfl)
theorem dX6_join_9 : decode cX6_join 9 = .ok (.iload_n 3, 1) := dk_29 (dk_at dksX6_join_0 9 rfl rfl)
theorem dX6_join_10 : decode cX6_join 10 = .ok (.istore 4, 2) := dk_54 4 (dk_at dksX6_join_0 10 rfl rfl)
theorem dX6_join_12 : decode cX6_join 12 = .ok (.iload 4, 2) := dk_21 4 (dk_at dksX6_join_0 12 rfl rfl)
theorem dX6_join_14 : decode cX6_join 14 = .ok (.ifCond .le 74, 3) := dk_158 0 74 (dk_at dksX6_join_0 14 rfl rfl)
theorem dX6_join_17 : decode cX6_join 17 = .ok (.bipush 8, 2) := dk_16 8 (dk_at dksX6_join_0 17 rfl rfl)
theorem dX6_join_19 : decode cX6_join 19 = .ok (.iload 4, 2) := dk_21 4 (dk_at dksX6_join_0 19 rfl rfl)
theorem dX6_join_21 : decode cX6_join 21 = .ok (.iconst 1, 1) := dk_4 (dk_at dksX6_join_0 21 rfl rfl)
theorem dX6_join_22 : decode cX6_join 22 = .ok (.isub, 1) := dk_100 (dk_at dksX6_join_0 22 rfl rfl)
theorem dX6_join_23 : decode cX6_join 23 = .ok (.ishr, 1) := dk_122 (dk_at dksX6_join_0 23 rfl rfl)
theorem dX6_join_24 : decode cX6_join 24 = .ok (.istore 5, 2) := dk_54 5 (dk_at dksX6_join_1 0 rfl rfl)
theorem dX6_join_26 : decode cX6_join 26 = .ok (.iconst 0, 1) := dk_3 (dk_at dksX6_join_1 2 rfl rfl)
theorem dX6_join_27 : decode cX6_join 27 = .ok (.istore 6, 2) := dk_54 6 (dk_at dksX6_join_1 3 rfl rfl)
theorem dX6_join_29 : decode cX6_join 29 = .ok (.iload 6, 2) := dk_21 6 (dk_at dksX6_join_1 5 rfl rfl)
theorem dX6_join_31 : decode cX6_join 31 = .ok (.iload 5, 2) := dk_21 5 (dk_at dksX6_join_1 7 rfl rfl)
theorem dX6_join_33 : decode cX6_join 33 = .ok (.if_icmp .ge 20, 3) := dk_162 0 20 (dk_at dksX6_join_1 9 rfl rfl)
theorem dX6_join_36 : decode cX6_join 36 = .ok (.aload_n 0, 1) := dk_42 (dk_at dksX6_join_1 12 rfl rfl)
theorem dX6_join_37 : decode cX6_join 37 = .ok (.aload_n 2, 1) := dk_44 (dk_at dksX6_join_1 13 rfl rfl)
theorem dX6_join_38 : decode cX6_join 38 = .ok (.iload 6, 2) := dk_21 6 (dk_at dksX6_join_1 14 rfl rfl)
theorem dX6_join_40 : decode cX6_join 40 = .ok (.bipush 8, 2) := dk_16 8 (dk_at dksX6_join_1 16 rfl rfl)
theorem dX6_join_42 : decode cX6_join 42 = .ok (.iload 5, 2) := dk_21 5 (dk_at dksX6_join_1 18 rfl rfl)
theorem dX6_join_44 : decode cX6_join 44 = .ok (.invokevirtual 36, 3) := dk_182 0 36 (dk_at dksX6_join_1 20 rfl rfl)
theorem dX6_join_47 : decode cX6_join 47 = .ok (.iinc 6 1, 3) := dk_132 6 1 (dk_at dksX6_join_2 0 rfl rfl)
theorem dX6_join_50 : decode cX6_join 50 = .ok (.goto (-21), 3) := dk_167 255 235 (dk_at dksX6_join_2 3 rfl rfl)
theorem dX6_join_53 : decode cX6_join 53 = .ok (.iconst 0, 1) := dk_3 (dk_at dksX6_join_2 6 rfl rfl)
theorem dX6_join_54 : decode cX6_join 54 = .ok (.istore 6, 2) := dk_54 6 (dk_at dksX6_join_2 7 rfl rfl)
theorem dX6_join_56 : decode cX6_join 56 = .ok (.iload 6, 2) := dk_21 6 (dk_at dksX6_join_2 9 rfl rfl)
theorem dX6_join_58 : decode cX6_join 58 = .ok (.iload 5, 2) := dk_21 5 (dk_at dksX6_join_2 11 rfl rfl)
theorem dX6_join_60 : decode cX6_join 60 = .ok (.if_icmp .ge 22, 3) := dk_162 0 22 (dk_at dksX6_join_2 13 rfl rfl)
theorem dX6_join_63 : decode cX6_join 63 = .ok (.aload_n 0, 1) := dk_42 (dk_at dksX6_join_2 16 rfl rfl)
theorem dX6_join_64 : decode cX6_join 64 = .ok (.aload_n 2, 1) := dk_44 (dk_at dksX6_join_2 17 rfl rfl)
theorem dX6_join_65 : decode cX6_join 65 = .ok (.bipush 8, 2) := dk_16 8 (dk_at dksX6_join_2 18 rfl rfl)
theorem dX6_join_67 : decode cX6_join 67 = .ok (.iload 6, 2) := dk_21 6 (dk_at dksX6_join_2 20 rfl rfl)
theorem dX6_join_69 : decode cX6_join 69 = .ok (.imul, 1) := dk_104 (dk_at dksX6_join_2 22 rfl rfl)
theorem dX6_join_70 : decode cX6_join 70 = .ok (.iconst 1, 1) := dk_4 (dk_at dksX6_join_2 23 rfl rfl)
theorem dX6_join_71 : decode cX6_join 71 = .ok (.iload 5, 2) := dk_21 5 (dk_at dksX6_join_3 0 rfl rfl)
theorem dX6_join_73 : decode cX6_join 73 = .ok (.invokevirtual 36, 3) := dk_182 0 36 (dk_at dksX6_join_3 2 rfl rfl)
theorem dX6_join_76 : decode cX6_join 76 = .ok (.iinc 6 1, 3) := dk_132 6 1 (dk_at dksX6_join_3 5 rfl rfl)
theorem dX6_join_79 : decode cX6_join 79 = .ok (.goto (-23), 3) := dk_167 255 233 (dk_at dksX6_join_3 8 rfl rfl)
theorem dX6_join_82 : decode cX6_join 82 = .ok (.iinc 4 (-1), 3) := dk_132 4 255 (dk_at dksX6_join_3 11 rfl rfl)
theorem dX6_join_85 : decode cX6_join 85 = .ok (.goto (-73), 3) := dk_167 255 183 (dk_at dksX6_join_3 14 rfl rfl)
theorem dX6_join_88 : decode cX6_join 88 = .ok (.aload_n 2, 1) := dk_44 (dk_at dksX6_join_3 17 rfl rfl)
theorem dX6_join_89 : decode cX6_join 89 = .ok (.areturn, 1) := dk_176 (dk_at dksX6_join_3 18 rfl rfl)
abbrev cX6_join_2 : ByteArray := prog_8_method_3_code
def yX6_join_2 : MethodName := ⟨RX6, "join", "([IIII)V"⟩
def dkwX6_join_2_3 : List UInt8 := [184, 0, 23, 79, 132, 6, 1, 167, 255, 187, 42, 43, 28, 29, 21, 4, 182, 0, 19, 177]
abbrev dktX6_join_2_3 : List UInt8 := dkwX6_join_2_3 ++ []
def dkwX6_join_2_2 : List UInt8 := [21, 7, 21, 8, 3, 184, 0, 23, 79, 42, 180, 0, 9, 5, 21, 6, 104, 4, 96, 21, 7, 21, 8, 4]
abbrev dktX6_join_2_2 : List UInt8 := dkwX6_join_2_2 ++ dktX6_join_2_3
def dkwX6_join_2_1 : List UInt8 := [54, 7, 43, 28, 21, 5, 21, 6, 96, 29, 104, 96, 46, 54, 8, 42, 180, 0, 9, 5, 21, 6, 104]
abbrev dktX6_join_2_1 : List UInt8 := dkwX6_join_2_1 ++ dktX6_join_2_2
def dkwX6_join_2_0 : List UInt8 := [21, 4, 5, 108, 54, 5, 3, 54, 6, 21, 6, 21, 5, 162, 0, 68, 43, 28, 21, 6, 29, 104, 96, 46]
abbrev dktX6_join_2_0 : List UInt8 := dkwX6_join_2_0 ++ dktX6_join_2_1
theorem dksX6_join_2_0 : cX6_join_2.data.toList.drop 0 = dktX6_join_2_0 := by decide +kernel
theorem dksX6_join_2_1 : cX6_join_2.data.toList.drop 24 = dktX6_join_2_1 := dk_seg dksX6_join_2_0 24 rfl rfl
theorem dksX6_join_2_2 : cX6_join_2.data.toList.drop 47 = dktX6_join_2_2 := dk_seg dksX6_join_2_1 23 rfl rfl
theorem dksX6_join_2_3 : cX6_join_2.data.toList.drop 71 = dktX6_join_2_3 := dk_seg dksX6_join_2_2 24 rfl rfl
theorem dX6_join_2_0 : decode cX6_join_2 0 = .ok (.iload 4, 2) := dk_21 4 (dk_at dksX6_join_2_0 0 rfl rfl)
theorem dX6_join_2_2 : decode cX6_join_2 2 = .ok (.iconst 2, 1) := dk_5 (dk_at dksX6_join_2_0 2 rfl rfl)
theorem dX6_join_2_3 : decode cX6_join_2 3 = .ok (.idiv, 1) := dk_108 (dk_at dksX6_join_2_0 3 rfl rfl)
theorem dX6_join_2_4 : decode cX6_join_2 4 = .ok (.istore 5, 2) := dk_54 5 (dk_at dksX6_join_2_0 4 rfl rfl)
theorem dX6_join_2_6 : decode cX6_join_2 6 = .ok (.iconst 0, 1) := dk_3 (dk_at dksX6_join_2_0 6 rfl rfl)
theorem dX6_join_2_7 : decode cX6_join_2 7 = .ok (.istore 6, 2) := dk_54 6 (dk_at dksX6_join_2_0 7 rfl rfl)
theorem dX6_join_2_9 : decode cX6_join_2 9 = .ok (.iload 6, 2) := dk_21 6 (dk_at dksX6_join_2_0 9 rfl rfl)
theorem dX6_join_2_11 : decode cX6_join_2 11 = .ok (.iload 5, 2) := dk_21 5 (dk_at dksX6_join_2_0 11 rfl rfl)
theorem dX6_join_2_13 : decode cX6_join_2 13 = .ok (.if_icmp .ge 68, 3) := dk_162 0 68 (dk_at dksX6_join_2_0 13 rfl rfl)
theorem dX6_join_2_16 : decode cX6_join_2 16 = .ok (.aload_n 1, 1) := dk_43 (dk_at dksX6_join_2_0 16 rfl rfl)
theorem dX6_join_2_17 : decode cX6_join_2 17 = .ok (.iload_n 2, 1) := dk_28 (dk_at dksX6_join_2_0 17 rfl rfl)
theorem dX6_join_2_18 : decode cX6_join_2 18 = .ok (.iload 6, 2) := dk_21 6 (dk_at dksX6_join_2_0 18 rfl rfl)
theorem dX6_join_2_20 : decode cX6_join_2 20 = .ok (.iload_n 3, 1) := dk_29 (dk_at dksX6_join_2_0 20 rfl rfl)
theorem dX6_join_2_21 : decode cX6_join_2 21 = .ok (.imul, 1) := dk_104 (dk_at dksX6_join_2_0 21 rfl rfl)
theorem dX6_join_2_22 : decode cX6_join_2 22 = .ok (.iadd, 1) := dk_96 (dk_at dksX6_join_2_0 22 rfl rfl)
theorem dX6_join_2_23 : decode cX6_join_2 23 = .ok (.iaload, 1) := dk_46 (dk_at dksX6_join_2_0 23 rfl rfl)
theorem dX6_join_2_24 : decode cX6_join_2 24 = .ok (.istore 7, 2) := dk_54 7 (dk_at dksX6_join_2_1 0 rfl rfl)
theorem dX6_join_2_26 : decode cX6_join_2 26 = .ok (.aload_n 1, 1) := dk_43 (dk_at dksX6_join_2_1 2 rfl rfl)
theorem dX6_join_2_27 : decode cX6_join_2 27 = .ok (.iload_n 2, 1) := dk_28 (dk_at dksX6_join_2_1 3 rfl rfl)
theorem dX6_join_2_28 : decode cX6_join_2 28 = .ok (.iload 5, 2) := dk_21 5 (dk_at dksX6_join_2_1 4 rfl rfl)
theorem dX6_join_2_30 : decode cX6_join_2 30 = .ok (.iload 6, 2) := dk_21 6 (dk_at dksX6_join_2_1 6 rfl rfl)
theorem dX6_join_2_32 : decode cX6_join_2 32 = .ok (.iadd, 1) := dk_96 (dk_at dksX6_join_2_1 8 rfl rfl)
theorem dX6_join_2_33 : decode cX6_join_2 33 = .ok (.iload_n 3, 1) := dk_29 (dk_at dksX6_join_2_1 9 rfl rfl)
theorem dX6_join_2_34 : decode cX6_join_2 34 = .ok (.imul, 1) := dk_104 (dk_at dksX6_join_2_1 10 rfl rfl)
theorem dX6_join_2_35 : decode cX6_join_2 35 = .ok (.iadd, 1) := dk_96 (dk_at dksX6_join_2_1 11 rfl rfl)
theorem dX6_join_2_36 : decode cX6_join_2 36 = .ok (.iaload, 1) := dk_46 (dk_at dksX6_join_2_1 12 rfl rfl)
theorem dX6_join_2_37 : decode cX6_join_2 37 = .ok (.istore 8, 2) := dk_54 8 (dk_at dksX6_join_2_1 13 rfl rfl)
theorem dX6_join_2_39 : decode cX6_join_2 39 = .ok (.aload_n 0, 1) := dk_42 (dk_at dksX6_join_2_1 15 rfl rfl)
theorem dX6_join_2_40 : decode cX6_join_2 40 = .ok (.getfield 9, 3) := dk_180 0 9 (dk_at dksX6_join_2_1 16 rfl rfl)
theorem dX6_join_2_43 : decode cX6_join_2 43 = .ok (.iconst 2, 1) := dk_5 (dk_at dksX6_join_2_1 19 rfl rfl)
theorem dX6_join_2_44 : decode cX6_join_2 44 = .ok (.iload 6, 2) := dk_21 6 (dk_at dksX6_join_2_1 20 rfl rfl)
theorem dX6_join_2_46 : decode cX6_join_2 46 = .ok (.imul, 1) := dk_104 (dk_at dksX6_join_2_1 22 rfl rfl)
theorem dX6_join_2_47 : decode cX6_join_2 47 = .ok (.iload 7, 2) := dk_21 7 (dk_at dksX6_join_2_2 0 rfl rfl)
theorem dX6_join_2_49 : decode cX6_join_2 49 = .ok (.iload 8, 2) := dk_21 8 (dk_at dksX6_join_2_2 2 rfl rfl)
theorem dX6_join_2_51 : decode cX6_join_2 51 = .ok (.iconst 0, 1) := dk_3 (dk_at dksX6_join_2_2 4 rfl rfl)
theorem dX6_join_2_52 : decode cX6_join_2 52 = .ok (.invokestatic 23, 3) := dk_184 0 23 (dk_at dksX6_join_2_2 5 rfl rfl)
theorem dX6_join_2_55 : decode cX6_join_2 55 = .ok (.iastore, 1) := dk_79 (dk_at dksX6_join_2_2 8 rfl rfl)
theorem dX6_join_2_56 : decode cX6_join_2 56 = .ok (.aload_n 0, 1) := dk_42 (dk_at dksX6_join_2_2 9 rfl rfl)
theorem dX6_join_2_57 : decode cX6_join_2 57 = .ok (.getfield 9, 3) := dk_180 0 9 (dk_at dksX6_join_2_2 10 rfl rfl)
theorem dX6_join_2_60 : decode cX6_join_2 60 = .ok (.iconst 2, 1) := dk_5 (dk_at dksX6_join_2_2 13 rfl rfl)
theorem dX6_join_2_61 : decode cX6_join_2 61 = .ok (.iload 6, 2) := dk_21 6 (dk_at dksX6_join_2_2 14 rfl rfl)
theorem dX6_join_2_63 : decode cX6_join_2 63 = .ok (.imul, 1) := dk_104 (dk_at dksX6_join_2_2 16 rfl rfl)
theorem dX6_join_2_64 : decode cX6_join_2 64 = .ok (.iconst 1, 1) := dk_4 (dk_at dksX6_join_2_2 17 rfl rfl)
theorem dX6_join_2_65 : decode cX6_join_2 65 = .ok (.iadd, 1) := dk_96 (dk_at dksX6_join_2_2 18 rfl rfl)
theorem dX6_join_2_66 : decode cX6_join_2 66 = .ok (.iload 7, 2) := dk_21 7 (dk_at dksX6_join_2_2 19 rfl rfl)
theorem dX6_join_2_68 : decode cX6_join_2 68 = .ok (.iload 8, 2) := dk_21 8 (dk_at dksX6_join_2_2 21 rfl rfl)
theorem dX6_join_2_70 : decode cX6_join_2 70 = .ok (.iconst 1, 1) := dk_4 (dk_at dksX6_join_2_2 23 rfl rfl)
theorem dX6_join_2_71 : decode cX6_join_2 71 = .ok (.invokestatic 23, 3) := dk_184 0 23 (dk_at dksX6_join_2_3 0 rfl rfl)
theorem dX6_join_2_74 : decode cX6_join_2 74 = .ok (.iastore, 1) := dk_79 (dk_at dksX6_join_2_3 3 rfl rfl)
theorem dX6_join_2_75 : decode cX6_join_2 75 = .ok (.iinc 6 1, 3) := dk_132 6 1 (dk_at dksX6_join_2_3 4 rfl rfl)
theorem dX6_join_2_78 : decode cX6_join_2 78 = .ok (.goto (-69), 3) := dk_167 255 187 (dk_at dksX6_join_2_3 7 rfl rfl)
theorem dX6_join_2_81 : decode cX6_join_2 81 = .ok (.aload_n 0, 1) := dk_42 (dk_at dksX6_join_2_3 10 rfl rfl)
theorem dX6_join_2_82 : decode cX6_join_2 82 = .ok (.aload_n 1, 1) := dk_43 (dk_at dksX6_join_2_3 11 rfl rfl)
theorem dX6_join_2_83 : decode cX6_join_2 83 = .ok (.iload_n 2, 1) := dk_28 (dk_at dksX6_join_2_3 12 rfl rfl)
theorem dX6_join_2_84 : decode cX6_join_2 84 = .ok (.iload_n 3, 1) := dk_29 (dk_at dksX6_join_2_3 13 rfl rfl)
theorem dX6_join_2_85 : decode cX6_join_2 85 = .ok (.iload 4, 2) := dk_21 4 (dk_at dksX6_join_2_3 14 rfl rfl)
theorem dX6_join_2_87 : decode cX6_join_2 87 = .ok (.invokevirtual 19, 3) := dk_182 0 19 (dk_at dksX6_join_2_3 16 rfl rfl)
theorem dX6_join_2_90 : decode cX6_join_2 90 = .ok (.return_, 1) := dk_177 (dk_at dksX6_join_2_3 19 rfl rfl)
theorem q118 : (Jvm.Cond.initialized "CrumbPictures$Splitter") ∈ lw_all := lw_g (lw_at lw_m1 13 rfl) rfl
theorem q361 : (Jvm.Cond.instantiable "CrumbPictures$Splitter" (1 : Nat)) ∈ lw_all := lw_g (lw_at lw_m2 16 rfl) rfl
theorem q363 : (Jvm.Cond.instanceMethod ({ cls := "CrumbPictures$Splitter", name := "<init>", desc := "()V" } : Jvm.MethodName)) ∈ lw_all := lw_g (lw_at lw_m2 18 rfl) rfl
theorem q364 : (Jvm.Cond.code ({ cls := "CrumbPictures$Splitter", name := "<init>", desc := "()V" } : Jvm.MethodName) prog_8_method_1_code (1 : Nat) (Option.none : Option Jvm.ClassFile.FieldType)) ∈ lw_all := lw_g (lw_at lw_m2 19 rfl) rfl
theorem q365 : (Jvm.Cond.methodLink "CrumbPictures$Splitter" (3 : Nat) ({ cls := "java/lang/Object", name := "<init>", desc := "()V" } : Jvm.MethodName)) ∈ lw_all := lw_g (lw_at lw_m2 20 rfl) rfl
theorem q366 : (Jvm.Cond.fieldLink "CrumbPictures$Splitter" (9 : Nat) "CrumbPictures$Splitter" "line" "[I") ∈ lw_all := lw_g (lw_at lw_m2 21 rfl) rfl
theorem q367 : (Jvm.Cond.laysFinal "CrumbPictures$Splitter" "CrumbPictures$Splitter" "line" "[I") ∈ lw_all := lw_g (lw_at lw_m2 22 rfl) rfl
theorem q368 : (Jvm.Cond.soleField "CrumbPictures$Splitter" "line") ∈ lw_all := lw_g (lw_at lw_m2 23 rfl) rfl
theorem q369 : (Jvm.Cond.superclass "CrumbPictures$Splitter" "java/lang/Object") ∈ lw_all := lw_g (lw_at lw_m2 24 rfl) rfl
theorem q605 : (Jvm.Cond.selects "CrumbPictures$Splitter" ({ cls := "java/lang/Object", name := "getClass", desc := "()Ljava/lang/Class;" } : Jvm.MethodName) ({ cls := "java/lang/Object", name := "getClass", desc := "()Ljava/lang/Class;" } : Jvm.MethodName)) ∈ lw_all := lw_g (lw_at lw_m3 20 rfl) rfl
theorem q1068 : (Jvm.Cond.instanceMethod ({ cls := "CrumbPictures$Splitter", name := "split", desc := "([I[II)[I" } : Jvm.MethodName)) ∈ lw_all := lw_g (lw_at lw_m5 3 rfl) rfl
theorem q1069 : (Jvm.Cond.selects "CrumbPictures$Splitter" ({ cls := "CrumbPictures$Splitter", name := "split", desc := "([I[II)[I" } : Jvm.MethodName) ({ cls := "CrumbPictures$Splitter", name := "split", desc := "([I[II)[I" } : Jvm.MethodName)) ∈ lw_all := lw_g (lw_at lw_m5 4 rfl) rfl
theorem q1070 : (Jvm.Cond.code ({ cls := "CrumbPictures$Splitter", name := "split", desc := "([I[II)[I" } : Jvm.MethodName) prog_8_method_5_code (7 : Nat) (Option.some (Jvm.ClassFile.FieldType.array Jvm.ClassFile.FieldType.int))) ∈ lw_all := lw_g (lw_at lw_m5 5 rfl) rfl
theorem q1071 : (Jvm.Cond.methodLink "CrumbPictures$Splitter" (27 : Nat) ({ cls := "java/lang/System", name := "arraycopy", desc := "(Ljava/lang/Object;ILjava/lang/Object;II)V" } : Jvm.MethodName)) ∈ lw_all := lw_g (lw_at lw_m5 6 rfl) rfl
theorem q1072 : (Jvm.Cond.methodLink "CrumbPictures$Splitter" (33 : Nat) ({ cls := "CrumbPictures$Splitter", name := "split", desc := "([IIII)V" } : Jvm.MethodName)) ∈ lw_all := lw_g (lw_at lw_m5 7 rfl) rfl
theorem q1073 : (Jvm.Cond.privateMethod ({ cls := "CrumbPictures$Splitter", name := "split", desc := "([IIII)V" } : Jvm.MethodName)) ∈ lw_tbl := lw_at lw_m5 8 rfl
theorem q1074 : (Jvm.Cond.instanceMethod ({ cls := "CrumbPictures$Splitter", name := "split", desc := "([IIII)V" } : Jvm.MethodName)) ∈ lw_all := lw_g (lw_at lw_m5 9 rfl) rfl
theorem q1075 : (Jvm.Cond.code ({ cls := "CrumbPictures$Splitter", name := "split", desc := "([IIII)V" } : Jvm.MethodName) prog_8_method_2_code (9 : Nat) (Option.none : Option Jvm.ClassFile.FieldType)) ∈ lw_all := lw_g (lw_at lw_m5 10 rfl) rfl
theorem q1076 : (Jvm.Cond.methodLinkNest "CrumbPictures$Splitter" (15 : Nat) ({ cls := "CrumbPictures", name := "sumOf", desc := "(II)I" } : Jvm.MethodName) "CrumbPictures") ∈ lw_tbl := lw_at lw_m5 11 rfl
theorem q1079 : (Jvm.Cond.methodLink "CrumbPictures$Splitter" (19 : Nat) ({ cls := "CrumbPictures$Splitter", name := "put", desc := "([IIII)V" } : Jvm.MethodName)) ∈ lw_all := lw_g (lw_at lw_m5 14 rfl) rfl
theorem q1080 : (Jvm.Cond.privateMethod ({ cls := "CrumbPictures$Splitter", name := "put", desc := "([IIII)V" } : Jvm.MethodName)) ∈ lw_tbl := lw_at lw_m5 15 rfl
theorem q1081 : (Jvm.Cond.instanceMethod ({ cls := "CrumbPictures$Splitter", name := "put", desc := "([IIII)V" } : Jvm.MethodName)) ∈ lw_all := lw_g (lw_at lw_m5 16 rfl) rfl
theorem q1082 : (Jvm.Cond.code ({ cls := "CrumbPictures$Splitter", name := "put", desc := "([IIII)V" } : Jvm.MethodName) prog_8_method_4_code (6 : Nat) (Option.none : Option Jvm.ClassFile.FieldType)) ∈ lw_all := lw_g (lw_at lw_m5 17 rfl) rfl
theorem q1206 : (Jvm.Cond.instanceMethod ({ cls := "CrumbPictures$Splitter", name := "join", desc := "([I[II)[I" } : Jvm.MethodName)) ∈ lw_all := lw_g (lw_at lw_m5 141 rfl) rfl
theorem q1207 : (Jvm.Cond.selects "CrumbPictures$Splitter" ({ cls := "CrumbPictures$Splitter", name := "join", desc := "([I[II)[I" } : Jvm.MethodName) ({ cls := "CrumbPictures$Splitter", name := "join", desc := "([I[II)[I" } : Jvm.MethodName)) ∈ lw_all := lw_g (lw_at lw_m5 142 rfl) rfl
theorem q1208 : (Jvm.Cond.code ({ cls := "CrumbPictures$Splitter", name := "join", desc := "([I[II)[I" } : Jvm.MethodName) prog_8_method_6_code (7 : Nat) (Option.some (Jvm.ClassFile.FieldType.array Jvm.ClassFile.FieldType.int))) ∈ lw_all := lw_g (lw_at lw_m5 143 rfl) rfl
theorem q1209 : (Jvm.Cond.methodLink "CrumbPictures$Splitter" (36 : Nat) ({ cls := "CrumbPictures$Splitter", name := "join", desc := "([IIII)V" } : Jvm.MethodName)) ∈ lw_all := lw_g (lw_at lw_m5 144 rfl) rfl
theorem q1210 : (Jvm.Cond.privateMethod ({ cls := "CrumbPictures$Splitter", name := "join", desc := "([IIII)V" } : Jvm.MethodName)) ∈ lw_tbl := lw_at lw_m5 145 rfl
theorem q1211 : (Jvm.Cond.instanceMethod ({ cls := "CrumbPictures$Splitter", name := "join", desc := "([IIII)V" } : Jvm.MethodName)) ∈ lw_all := lw_g (lw_at lw_m5 146 rfl) rfl
theorem q1212 : (Jvm.Cond.code ({ cls := "CrumbPictures$Splitter", name := "join", desc := "([IIII)V" } : Jvm.MethodName) prog_8_method_3_code (9 : Nat) (Option.none : Option Jvm.ClassFile.FieldType)) ∈ lw_all := lw_g (lw_at lw_m5 147 rfl) rfl
theorem q1213 : (Jvm.Cond.methodLinkNest "CrumbPictures$Splitter" (23 : Nat) ({ cls := "CrumbPictures", name := "oneOf", desc := "(III)I" } : Jvm.MethodName) "CrumbPictures") ∈ lw_tbl := lw_at lw_m5 148 rfl
theorem q2159 : (Jvm.Cond.castable "CrumbPictures$Splitter" "java/lang/Object") ∈ lw_tbl := lw_at lw_m9 134 rfl
theorem in_X6 : ∀ w ∈ wsX60, w ∈ lw_all := lw_in wsX60 [367] (by decide +kernel) (by decide +kernel)
/-! CrumbPictures$Trees -/
set_option maxRecDepth 100000
def RX7 : String := "CrumbPictures$Trees"
def TX7 : u_T := fun k => match k with
  | 0 => ("CrumbPictures$Trees", "small", "[Z", true)
  | 1 => ("CrumbPictures$Trees", "parts", "[I", false)
  | 2 => ("CrumbPictures$Trees", "levels", "I", false)
  | _ => ("CrumbPictures$Trees", "threshold", "I", false)
def tyX7 : Nat → FieldType := fun k => match k with
  | 0 => .array .boolean
  | 1 => .array .int
  | 2 => .int
  | _ => .int
abbrev wsX70 : List Cond := u_ws RX7 TX7 4
theorem nmX7 : ∀ a, a < 4 → ∀ b, b < 4 → a ≠ b → (TX7 a).2.1 ≠ (TX7 b).2.1 := by decide +kernel
theorem tyX7_ok : ∀ k, k < 4 → parseFieldDescriptor (TX7 k).2.2.1 = some (tyX7 k) := by decide +kernel
abbrev cX7_init : ByteArray := prog_9_method_1_code
def yX7_init : MethodName := ⟨RX7, "<init>", "()V"⟩
def dkwX7_init_0 : List UInt8 := [42, 183, 0, 3, 42, 16, 64, 188, 4, 181, 0, 9, 177]
abbrev dktX7_init_0 : List UInt8 := dkwX7_init_0 ++ []
theorem dksX7_init_0 : cX7_init.data.toList.drop 0 = dktX7_init_0 := by decide +kernel
theorem dX7_init_0 : decode cX7_init 0 = .ok (.aload_n 0, 1) := dk_42 (dk_at dksX7_init_0 0 rfl rfl)
theorem dX7_init_1 : decode cX7_init 1 = .ok (.invokespecial 3, 3) := dk_183 0 3 (dk_at dksX7_init_0 1 rfl rfl)
theorem dX7_init_4 : decode cX7_init 4 = .ok (.aload_n 0, 1) := dk_42 (dk_at dksX7_init_0 4 rfl rfl)
theorem dX7_init_5 : decode cX7_init 5 = .ok (.bipush 64, 2) := dk_16 64 (dk_at dksX7_init_0 5 rfl rfl)
theorem dX7_init_7 : decode cX7_init 7 = .ok (.newarray .boolean, 2) := dk_188_4 (dk_at dksX7_init_0 7 rfl rfl)
theorem dX7_init_9 : decode cX7_init 9 = .ok (.putfield 9, 3) := dk_181 0 9 (dk_at dksX7_init_0 9 rfl rfl)
theorem dX7_init_12 : decode cX7_init 12 = .ok (.return_, 1) := dk_177 (dk_at dksX7_init_0 12 rfl rfl)
abbrev cX7_of : ByteArray := prog_9_method_2_code
def yX7_of : MethodName := ⟨RX7, "of", "([III)LCrumbPictures$Trees;"⟩
def dkwX7_of_0 : List UInt8 := [42, 43, 181, 0, 15, 42, 28, 181, 0, 19, 42, 29, 181, 0, 23, 42, 176]
abbrev dktX7_of_0 : List UInt8 := dkwX7_of_0 ++ []
theorem dksX7_of_0 : cX7_of.data.toList.drop 0 = dktX7_of_0 := by decide +kernel
theorem dX7_of_0 : decode cX7_of 0 = .ok (.aload_n 0, 1) := dk_42 (dk_at dksX7_of_0 0 rfl rfl)
theorem dX7_of_1 : decode cX7_of 1 = .ok (.aload_n 1, 1) := dk_43 (dk_at dksX7_of_0 1 rfl rfl)
theorem dX7_of_2 : decode cX7_of 2 = .ok (.putfield 15, 3) := dk_181 0 15 (dk_at dksX7_of_0 2 rfl rfl)
theorem dX7_of_5 : decode cX7_of 5 = .ok (.aload_n 0, 1) := dk_42 (dk_at dksX7_of_0 5 rfl rfl)
theorem dX7_of_6 : decode cX7_of 6 = .ok (.iload_n 2, 1) := dk_28 (dk_at dksX7_of_0 6 rfl rfl)
theorem dX7_of_7 : decode cX7_of 7 = .ok (.putfield 19, 3) := dk_181 0 19 (dk_at dksX7_of_0 7 rfl rfl)
theorem dX7_of_10 : decode cX7_of 10 = .ok (.aload_n 0, 1) := dk_42 (dk_at dksX7_of_0 10 rfl rfl)
theorem dX7_of_11 : decode cX7_of 11 = .ok (.iload_n 3, 1) := dk_29 (dk_at dksX7_of_0 11 rfl rfl)
theorem dX7_of_12 : decode cX7_of 12 = .ok (.putfield 23, 3) := dk_181 0 23 (dk_at dksX7_of_0 12 rfl rfl)
theorem dX7_of_15 : decode cX7_of 15 = .ok (.aload_n 0, 1) := dk_42 (dk_at dksX7_of_0 15 rfl rfl)
theorem dX7_of_16 : decode cX7_of 16 = .ok (.areturn, 1) := dk_176 (dk_at dksX7_of_0 16 rfl rfl)
abbrev cX7_fromAbove : ByteArray := prog_9_method_6_code
def yX7_fromAbove : MethodName := ⟨RX7, "fromAbove", "()I"⟩
def dkwX7_fromAbove_2 : List UInt8 := [27, 172]
abbrev dktX7_fromAbove_2 : List UInt8 := dkwX7_fromAbove_2 ++ []
def dkwX7_fromAbove_1 : List UInt8 := [160, 0, 15, 42, 28, 42, 180, 0, 19, 182, 0, 47, 167, 0, 4, 3, 96, 60, 132, 2, 1, 167, 255, 216]
abbrev dktX7_fromAbove_1 : List UInt8 := dkwX7_fromAbove_1 ++ dktX7_fromAbove_2
def dkwX7_fromAbove_0 : List UInt8 := [3, 60, 3, 61, 28, 16, 64, 162, 0, 40, 27, 28, 42, 180, 0, 19, 184, 0, 44, 42, 180, 0, 19]
abbrev dktX7_fromAbove_0 : List UInt8 := dkwX7_fromAbove_0 ++ dktX7_fromAbove_1
theorem dksX7_fromAbove_0 : cX7_fromAbove.data.toList.drop 0 = dktX7_fromAbove_0 := by decide +kernel
theorem dksX7_fromAbove_1 : cX7_fromAbove.data.toList.drop 23 = dktX7_fromAbove_1 := dk_seg dksX7_fromAbove_0 23 rfl rfl
theorem dksX7_fromAbove_2 : cX7_fromAbove.data.toList.drop 47 = dktX7_fromAbove_2 := dk_seg dksX7_fromAbove_1 24 rfl rfl
theorem dX7_fromAbove_0 : decode cX7_fromAbove 0 = .ok (.iconst 0, 1) := dk_3 (dk_at dksX7_fromAbove_0 0 rfl rfl)
theorem dX7_fromAbove_1 : decode cX7_fromAbove 1 = .ok (.istore_n 1, 1) := dk_60 (dk_at dksX7_fromAbove_0 1 rfl rfl)
theorem dX7_fromAbove_2 : decode cX7_fromAbove 2 = .ok (.iconst 0, 1) := dk_3 (dk_at dksX7_fromAbove_0 2 rfl rfl)
theorem dX7_fromAbove_3 : decode cX7_fromAbove 3 = .ok (.istore_n 2, 1) := dk_61 (dk_at dksX7_fromAbove_0 3 rfl rfl)
theorem dX7_fromAbove_4 : decode cX7_fromAbove 4 = .ok (.iload_n 2, 1) := dk_28 (dk_at dksX7_fromAbove_0 4 rfl rfl)
theorem dX7_fromAbove_5 : decode cX7_fromAbove 5 = .ok (.bipush 64, 2) := dk_16 64 (dk_at dksX7_fromAbove_0 5 rfl rfl)
theorem dX7_fromAbove_7 : decode cX7_fromAbove 7 = .ok (.if_icmp .ge 40, 3) := dk_162 0 40 (dk_at dksX7_fromAbove_0 7 rfl rfl)
theorem dX7_fromAbove_10 : decode cX7_fromAbove 10 = .ok (.iload_n 1, 1) := dk_27 (dk_at dksX7_fromAbove_0 10 rfl rfl)
theorem dX7_fromAbove_11 : decode cX7_fromAbove 11 = .ok (.iload_n 2, 1) := dk_28 (dk_at dksX7_fromAbove_0 11 rfl rfl)
theorem dX7_fromAbove_12 : decode cX7_fromAbove 12 = .ok (.aload_n 0, 1) := dk_42 (dk_at dksX7_fromAbove_0 12 rfl rfl)
theorem dX7_fromAbove_13 : decode cX7_fromAbove 13 = .ok (.getfield 19, 3) := dk_180 0 19 (dk_at dksX7_fromAbove_0 13 rfl rfl)
theorem dX7_fromAbove_16 : decode cX7_fromAbove 16 = .ok (.invokestatic 44, 3) := dk_184 0 44 (dk_at dksX7_fromAbove_0 16 rfl rfl)
theorem dX7_fromAbove_19 : decode cX7_fromAbove 19 = .ok (.aload_n 0, 1) := dk_42 (dk_at dksX7_fromAbove_0 19 rfl rfl)
theorem dX7_fromAbove_20 : decode cX7_fromAbove 20 = .ok (.getfield 19, 3) := dk_180 0 19 (dk_at dksX7_fromAbove_0 20 rfl rfl)
theorem dX7_fromAbove_23 : decode cX7_fromAbove 23 = .ok (.if_icmp .ne 15, 3) := dk_160 0 15 (dk_at dksX7_fromAbove_1 0 rfl rfl)
theorem dX7_fromAbove_26 : decode cX7_fromAbove 26 = .ok (.aload_n 0, 1) := dk_42 (dk_at dksX7_fromAbove_1 3 rfl rfl)
theorem dX7_fromAbove_27 : decode cX7_fromAbove 27 = .ok (.iload_n 2, 1) := dk_28 (dk_at dksX7_fromAbove_1 4 rfl rfl)
theorem dX7_fromAbove_28 : decode cX7_fromAbove 28 = .ok (.aload_n 0, 1) := dk_42 (dk_at dksX7_fromAbove_1 5 rfl rfl)
theorem dX7_fromAbove_29 : decode cX7_fromAbove 29 = .ok (.getfield 19, 3) := dk_180 0 19 (dk_at dksX7_fromAbove_1 6 rfl rfl)
theorem dX7_fromAbove_32 : decode cX7_fromAbove 32 = .ok (.invokevirtual 47, 3) := dk_182 0 47 (dk_at dksX7_fromAbove_1 9 rfl rfl)
theorem dX7_fromAbove_35 : decode cX7_fromAbove 35 = .ok (.goto 4, 3) := dk_167 0 4 (dk_at dksX7_fromAbove_1 12 rfl rfl)
theorem dX7_fromAbove_38 : decode cX7_fromAbove 38 = .ok (.iconst 0, 1) := dk_3 (dk_at dksX7_fromAbove_1 15 rfl rfl)
theorem dX7_fromAbove_39 : decode cX7_fromAbove 39 = .ok (.iadd, 1) := dk_96 (dk_at dksX7_fromAbove_1 16 rfl rfl)
theorem dX7_fromAbove_40 : decode cX7_fromAbove 40 = .ok (.istore_n 1, 1) := dk_60 (dk_at dksX7_fromAbove_1 17 rfl rfl)
theorem dX7_fromAbove_41 : decode cX7_fromAbove 41 = .ok (.iinc 2 1, 3) := dk_132 2 1 (dk_at dksX7_fromAbove_1 18 rfl rfl)
theorem dX7_fromAbove_44 : decode cX7_fromAbove 44 = .ok (.goto (-40), 3) := dk_167 255 216 (dk_at dksX7_fromAbove_1 21 rfl rfl)
theorem dX7_fromAbove_47 : decode cX7_fromAbove 47 = .ok (.iload_n 1, 1) := dk_27 (dk_at dksX7_fromAbove_2 0 rfl rfl)
theorem dX7_fromAbove_48 : decode cX7_fromAbove 48 = .ok (.ireturn, 1) := dk_172 (dk_at dksX7_fromAbove_2 1 rfl rfl)
abbrev cX7_count : ByteArray := prog_9_method_7_code
def yX7_count : MethodName := ⟨RX7, "count", "(II)I"⟩
def dkwX7_count_2 : List UInt8 := [167, 255, 226, 29, 172]
abbrev dktX7_count_2 : List UInt8 := dkwX7_count_2 ++ []
def dkwX7_count_1 : List UInt8 := [164, 0, 25, 29, 42, 27, 21, 4, 184, 0, 36, 28, 4, 100, 182, 0, 47, 96, 62, 132, 4, 1]
abbrev dktX7_count_1 : List UInt8 := dkwX7_count_1 ++ dktX7_count_2
def dkwX7_count_0 : List UInt8 := [42, 27, 28, 182, 0, 40, 153, 0, 5, 4, 172, 3, 62, 3, 54, 4, 21, 4, 7, 162, 0, 30, 28, 4]
abbrev dktX7_count_0 : List UInt8 := dkwX7_count_0 ++ dktX7_count_1
theorem dksX7_count_0 : cX7_count.data.toList.drop 0 = dktX7_count_0 := by decide +kernel
theorem dksX7_count_1 : cX7_count.data.toList.drop 24 = dktX7_count_1 := dk_seg dksX7_count_0 24 rfl rfl
theorem dksX7_count_2 : cX7_count.data.toList.drop 46 = dktX7_count_2 := dk_seg dksX7_count_1 22 rfl rfl
theorem dX7_count_0 : decode cX7_count 0 = .ok (.aload_n 0, 1) := dk_42 (dk_at dksX7_count_0 0 rfl rfl)
theorem dX7_count_1 : decode cX7_count 1 = .ok (.iload_n 1, 1) := dk_27 (dk_at dksX7_count_0 1 rfl rfl)
theorem dX7_count_2 : decode cX7_count 2 = .ok (.iload_n 2, 1) := dk_28 (dk_at dksX7_count_0 2 rfl rfl)
theorem dX7_count_3 : decode cX7_count 3 = .ok (.invokevirtual 40, 3) := dk_182 0 40 (dk_at dksX7_count_0 3 rfl rfl)
theorem dX7_count_6 : decode cX7_count 6 = .ok (.ifCond .eq 5, 3) := dk_153 0 5 (dk_at dksX7_count_0 6 rfl rfl)
theorem dX7_count_9 : decode cX7_count 9 = .ok (.iconst 1, 1) := dk_4 (dk_at dksX7_count_0 9 rfl rfl)
theorem dX7_count_10 : decode cX7_count 10 = .ok (.ireturn, 1) := dk_172 (dk_at dksX7_count_0 10 rfl rfl)
theorem dX7_count_11 : decode cX7_count 11 = .ok (.iconst 0, 1) := dk_3 (dk_at dksX7_count_0 11 rfl rfl)
theorem dX7_count_12 : decode cX7_count 12 = .ok (.istore_n 3, 1) := dk_62 (dk_at dksX7_count_0 12 rfl rfl)
theorem dX7_count_13 : decode cX7_count 13 = .ok (.iconst 0, 1) := dk_3 (dk_at dksX7_count_0 13 rfl rfl)
theorem dX7_count_14 : decode cX7_count 14 = .ok (.istore 4, 2) := dk_54 4 (dk_at dksX7_count_0 14 rfl rfl)
theorem dX7_count_16 : decode cX7_count 16 = .ok (.iload 4, 2) := dk_21 4 (dk_at dksX7_count_0 16 rfl rfl)
theorem dX7_count_18 : decode cX7_count 18 = .ok (.iconst 4, 1) := dk_7 (dk_at dksX7_count_0 18 rfl rfl)
theorem dX7_count_19 : decode cX7_count 19 = .ok (.if_icmp .ge 30, 3) := dk_162 0 30 (dk_at dksX7_count_0 19 rfl rfl)
theorem dX7_count_22 : decode cX7_count 22 = .ok (.iload_n 2, 1) := dk_28 (dk_at dksX7_count_0 22 rfl rfl)
theorem dX7_count_23 : decode cX7_count 23 = .ok (.iconst 1, 1) := dk_4 (dk_at dksX7_count_0 23 rfl rfl)
theorem dX7_count_24 : decode cX7_count 24 = .ok (.if_icmp .le 25, 3) := dk_164 0 25 (dk_at dksX7_count_1 0 rfl rfl)
theorem dX7_count_27 : decode cX7_count 27 = .ok (.iload_n 3, 1) := dk_29 (dk_at dksX7_count_1 3 rfl rfl)
theorem dX7_count_28 : decode cX7_count 28 = .ok (.aload_n 0, 1) := dk_42 (dk_at dksX7_count_1 4 rfl rfl)
theorem dX7_count_29 : decode cX7_count 29 = .ok (.iload_n 1, 1) := dk_27 (dk_at dksX7_count_1 5 rfl rfl)
theorem dX7_count_30 : decode cX7_count 30 = .ok (.iload 4, 2) := dk_21 4 (dk_at dksX7_count_1 6 rfl rfl)
theorem dX7_count_32 : decode cX7_count 32 = .ok (.invokestatic 36, 3) := dk_184 0 36 (dk_at dksX7_count_1 8 rfl rfl)
theorem dX7_count_35 : decode cX7_count 35 = .ok (.iload_n 2, 1) := dk_28 (dk_at dksX7_count_1 11 rfl rfl)
theorem dX7_count_36 : decode cX7_count 36 = .ok (.iconst 1, 1) := dk_4 (dk_at dksX7_count_1 12 rfl rfl)
theorem dX7_count_37 : decode cX7_count 37 = .ok (.isub, 1) := dk_100 (dk_at dksX7_count_1 13 rfl rfl)
theorem dX7_count_38 : decode cX7_count 38 = .ok (.invokevirtual 47, 3) := dk_182 0 47 (dk_at dksX7_count_1 14 rfl rfl)
theorem dX7_count_41 : decode cX7_count 41 = .ok (.iadd, 1) := dk_96 (dk_at dksX7_count_1 17 rfl rfl)
theorem dX7_count_42 : decode cX7_count 42 = .ok (.istore_n 3, 1) := dk_62 (dk_at dksX7_count_1 18 rfl rfl)
theorem dX7_count_43 : decode cX7_count 43 = .ok (.iinc 4 1, 3) := dk_132 4 1 (dk_at dksX7_count_1 19 rfl rfl)
theorem dX7_count_46 : decode cX7_count 46 = .ok (.goto (-30), 3) := dk_167 255 226 (dk_at dksX7_count_2 0 rfl rfl)
theorem dX7_count_49 : decode cX7_count 49 = .ok (.iload_n 3, 1) := dk_29 (dk_at dksX7_count_2 3 rfl rfl)
theorem dX7_count_50 : decode cX7_count 50 = .ok (.ireturn, 1) := dk_172 (dk_at dksX7_count_2 4 rfl rfl)
abbrev cX7_isTree : ByteArray := prog_9_method_5_code
def yX7_isTree : MethodName := ⟨RX7, "isTree", "(II)Z"⟩
def dkwX7_isTree_1 : List UInt8 := [42, 27, 21, 4, 184, 0, 36, 28, 4, 100, 182, 0, 40, 62, 132, 4, 1, 167, 255, 224, 29, 172]
abbrev dktX7_isTree_1 : List UInt8 := dkwX7_isTree_1 ++ []
def dkwX7_isTree_0 : List UInt8 := [42, 27, 182, 0, 32, 62, 3, 54, 4, 21, 4, 7, 162, 0, 32, 29, 153, 0, 28, 28, 4, 164, 0, 23]
abbrev dktX7_isTree_0 : List UInt8 := dkwX7_isTree_0 ++ dktX7_isTree_1
theorem dksX7_isTree_0 : cX7_isTree.data.toList.drop 0 = dktX7_isTree_0 := by decide +kernel
theorem dksX7_isTree_1 : cX7_isTree.data.toList.drop 24 = dktX7_isTree_1 := dk_seg dksX7_isTree_0 24 rfl rfl
theorem dX7_isTree_0 : decode cX7_isTree 0 = .ok (.aload_n 0, 1) := dk_42 (dk_at dksX7_isTree_0 0 rfl rfl)
theorem dX7_isTree_1 : decode cX7_isTree 1 = .ok (.iload_n 1, 1) := dk_27 (dk_at dksX7_isTree_0 1 rfl rfl)
theorem dX7_isTree_2 : decode cX7_isTree 2 = .ok (.invokevirtual 32, 3) := dk_182 0 32 (dk_at dksX7_isTree_0 2 rfl rfl)
theorem dX7_isTree_5 : decode cX7_isTree 5 = .ok (.istore_n 3, 1) := dk_62 (dk_at dksX7_isTree_0 5 rfl rfl)
theorem dX7_isTree_6 : decode cX7_isTree 6 = .ok (.iconst 0, 1) := dk_3 (dk_at dksX7_isTree_0 6 rfl rfl)
theorem dX7_isTree_7 : decode cX7_isTree 7 = .ok (.istore 4, 2) := dk_54 4 (dk_at dksX7_isTree_0 7 rfl rfl)
theorem dX7_isTree_9 : decode cX7_isTree 9 = .ok (.iload 4, 2) := dk_21 4 (dk_at dksX7_isTree_0 9 rfl rfl)
theorem dX7_isTree_11 : decode cX7_isTree 11 = .ok (.iconst 4, 1) := dk_7 (dk_at dksX7_isTree_0 11 rfl rfl)
theorem dX7_isTree_12 : decode cX7_isTree 12 = .ok (.if_icmp .ge 32, 3) := dk_162 0 32 (dk_at dksX7_isTree_0 12 rfl rfl)
theorem dX7_isTree_15 : decode cX7_isTree 15 = .ok (.iload_n 3, 1) := dk_29 (dk_at dksX7_isTree_0 15 rfl rfl)
theorem dX7_isTree_16 : decode cX7_isTree 16 = .ok (.ifCond .eq 28, 3) := dk_153 0 28 (dk_at dksX7_isTree_0 16 rfl rfl)
theorem dX7_isTree_19 : decode cX7_isTree 19 = .ok (.iload_n 2, 1) := dk_28 (dk_at dksX7_isTree_0 19 rfl rfl)
theorem dX7_isTree_20 : decode cX7_isTree 20 = .ok (.iconst 1, 1) := dk_4 (dk_at dksX7_isTree_0 20 rfl rfl)
theorem dX7_isTree_21 : decode cX7_isTree 21 = .ok (.if_icmp .le 23, 3) := dk_164 0 23 (dk_at dksX7_isTree_0 21 rfl rfl)
theorem dX7_isTree_24 : decode cX7_isTree 24 = .ok (.aload_n 0, 1) := dk_42 (dk_at dksX7_isTree_1 0 rfl rfl)
theorem dX7_isTree_25 : decode cX7_isTree 25 = .ok (.iload_n 1, 1) := dk_27 (dk_at dksX7_isTree_1 1 rfl rfl)
theorem dX7_isTree_26 : decode cX7_isTree 26 = .ok (.iload 4, 2) := dk_21 4 (dk_at dksX7_isTree_1 2 rfl rfl)
theorem dX7_isTree_28 : decode cX7_isTree 28 = .ok (.invokestatic 36, 3) := dk_184 0 36 (dk_at dksX7_isTree_1 4 rfl rfl)
theorem dX7_isTree_31 : decode cX7_isTree 31 = .ok (.iload_n 2, 1) := dk_28 (dk_at dksX7_isTree_1 7 rfl rfl)
theorem dX7_isTree_32 : decode cX7_isTree 32 = .ok (.iconst 1, 1) := dk_4 (dk_at dksX7_isTree_1 8 rfl rfl)
theorem dX7_isTree_33 : decode cX7_isTree 33 = .ok (.isub, 1) := dk_100 (dk_at dksX7_isTree_1 9 rfl rfl)
theorem dX7_isTree_34 : decode cX7_isTree 34 = .ok (.invokevirtual 40, 3) := dk_182 0 40 (dk_at dksX7_isTree_1 10 rfl rfl)
theorem dX7_isTree_37 : decode cX7_isTree 37 = .ok (.istore_n 3, 1) := dk_62 (dk_at dksX7_isTree_1 13 rfl rfl)
theorem dX7_isTree_38 : decode cX7_isTree 38 = .ok (.iinc 4 1, 3) := dk_132 4 1 (dk_at dksX7_isTree_1 14 rfl rfl)
theorem dX7_isTree_41 : decode cX7_isTree 41 = .ok (.goto (-32), 3) := dk_167 255 224 (dk_at dksX7_isTree_1 17 rfl rfl)
theorem dX7_isTree_44 : decode cX7_isTree 44 = .ok (.iload_n 3, 1) := dk_29 (dk_at dksX7_isTree_1 20 rfl rfl)
theorem dX7_isTree_45 : decode cX7_isTree 45 = .ok (.ireturn, 1) := dk_172 (dk_at dksX7_isTree_1 21 rfl rfl)
abbrev cX7_isNear : ByteArray := prog_9_method_3_code
def yX7_isNear : MethodName := ⟨RX7, "isNear", "(I)Z"⟩
def dkwX7_isNear_0 : List UInt8 := [42, 180, 0, 15, 27, 46, 184, 0, 26, 42, 180, 0, 23, 163, 0, 7, 4, 167, 0, 4, 3, 172]
abbrev dktX7_isNear_0 : List UInt8 := dkwX7_isNear_0 ++ []
theorem dksX7_isNear_0 : cX7_isNear.data.toList.drop 0 = dktX7_isNear_0 := by decide +kernel
theorem dX7_isNear_0 : decode cX7_isNear 0 = .ok (.aload_n 0, 1) := dk_42 (dk_at dksX7_isNear_0 0 rfl rfl)
theorem dX7_isNear_1 : decode cX7_isNear 1 = .ok (.getfield 15, 3) := dk_180 0 15 (dk_at dksX7_isNear_0 1 rfl rfl)
theorem dX7_isNear_4 : decode cX7_isNear 4 = .ok (.iload_n 1, 1) := dk_27 (dk_at dksX7_isNear_0 4 rfl rfl)
theorem dX7_isNear_5 : decode cX7_isNear 5 = .ok (.iaload, 1) := dk_46 (dk_at dksX7_isNear_0 5 rfl rfl)
theorem dX7_isNear_6 : decode cX7_isNear 6 = .ok (.invokestatic 26, 3) := dk_184 0 26 (dk_at dksX7_isNear_0 6 rfl rfl)
theorem dX7_isNear_9 : decode cX7_isNear 9 = .ok (.aload_n 0, 1) := dk_42 (dk_at dksX7_isNear_0 9 rfl rfl)
theorem dX7_isNear_10 : decode cX7_isNear 10 = .ok (.getfield 23, 3) := dk_180 0 23 (dk_at dksX7_isNear_0 10 rfl rfl)
theorem dX7_isNear_13 : decode cX7_isNear 13 = .ok (.if_icmp .gt 7, 3) := dk_163 0 7 (dk_at dksX7_isNear_0 13 rfl rfl)
theorem dX7_isNear_16 : decode cX7_isNear 16 = .ok (.iconst 1, 1) := dk_4 (dk_at dksX7_isNear_0 16 rfl rfl)
theorem dX7_isNear_17 : decode cX7_isNear 17 = .ok (.goto 4, 3) := dk_167 0 4 (dk_at dksX7_isNear_0 17 rfl rfl)
theorem dX7_isNear_20 : decode cX7_isNear 20 = .ok (.iconst 0, 1) := dk_3 (dk_at dksX7_isNear_0 20 rfl rfl)
theorem dX7_isNear_21 : decode cX7_isNear 21 = .ok (.ireturn, 1) := dk_172 (dk_at dksX7_isNear_0 21 rfl rfl)
abbrev cX7_child : ByteArray := prog_9_method_4_code
def yX7_child : MethodName := ⟨RX7, "child", "(II)I"⟩
def dkwX7_child_1 : List UInt8 := [172]
abbrev dktX7_child_1 : List UInt8 := dkwX7_child_1 ++ []
def dkwX7_child_0 : List UInt8 := [16, 8, 5, 26, 16, 8, 108, 104, 27, 5, 108, 96, 104, 5, 26, 16, 8, 112, 104, 96, 27, 5, 112, 96]
abbrev dktX7_child_0 : List UInt8 := dkwX7_child_0 ++ dktX7_child_1
theorem dksX7_child_0 : cX7_child.data.toList.drop 0 = dktX7_child_0 := by decide +kernel
theorem dksX7_child_1 : cX7_child.data.toList.drop 24 = dktX7_child_1 := dk_seg dksX7_child_0 24 rfl rfl
theorem dX7_child_0 : decode cX7_child 0 = .ok (.bipush 8, 2) := dk_16 8 (dk_at dksX7_child_0 0 rfl rfl)
theorem dX7_child_2 : decode cX7_child 2 = .ok (.iconst 2, 1) := dk_5 (dk_at dksX7_child_0 2 rfl rfl)
theorem dX7_child_3 : decode cX7_child 3 = .ok (.iload_n 0, 1) := dk_26 (dk_at dksX7_child_0 3 rfl rfl)
theorem dX7_child_4 : decode cX7_child 4 = .ok (.bipush 8, 2) := dk_16 8 (dk_at dksX7_child_0 4 rfl rfl)
theorem dX7_child_6 : decode cX7_child 6 = .ok (.idiv, 1) := dk_108 (dk_at dksX7_child_0 6 rfl rfl)
theorem dX7_child_7 : decode cX7_child 7 = .ok (.imul, 1) := dk_104 (dk_at dksX7_child_0 7 rfl rfl)
theorem dX7_child_8 : decode cX7_child 8 = .ok (.iload_n 1, 1) := dk_27 (dk_at dksX7_child_0 8 rfl rfl)
theorem dX7_child_9 : decode cX7_child 9 = .ok (.iconst 2, 1) := dk_5 (dk_at dksX7_child_0 9 rfl rfl)
theorem dX7_child_10 : decode cX7_child 10 = .ok (.idiv, 1) := dk_108 (dk_at dksX7_child_0 10 rfl rfl)
theorem dX7_child_11 : decode cX7_child 11 = .ok (.iadd, 1) := dk_96 (dk_at dksX7_child_0 11 rfl rfl)
theorem dX7_child_12 : decode cX7_child 12 = .ok (.imul, 1) := dk_104 (dk_at dksX7_child_0 12 rfl rfl)
theorem dX7_child_13 : decode cX7_child 13 = .ok (.iconst 2, 1) := dk_5 (dk_at dksX7_child_0 13 rfl rfl)
theorem dX7_child_14 : decode cX7_child 14 = .ok (.iload_n 0, 1) := dk_26 (dk_at dksX7_child_0 14 rfl rfl)
theorem dX7_child_15 : decode cX7_child 15 = .ok (.bipush 8, 2) := dk_16 8 (dk_at dksX7_child_0 15 rfl rfl)
theorem dX7_child_17 : decode cX7_child 17 = .ok (.irem, 1) := dk_112 (dk_at dksX7_child_0 17 rfl rfl)
theorem dX7_child_18 : decode cX7_child 18 = .ok (.imul, 1) := dk_104 (dk_at dksX7_child_0 18 rfl rfl)
theorem dX7_child_19 : decode cX7_child 19 = .ok (.iadd, 1) := dk_96 (dk_at dksX7_child_0 19 rfl rfl)
theorem dX7_child_20 : decode cX7_child 20 = .ok (.iload_n 1, 1) := dk_27 (dk_at dksX7_child_0 20 rfl rfl)
theorem dX7_child_21 : decode cX7_child 21 = .ok (.iconst 2, 1) := dk_5 (dk_at dksX7_child_0 21 rfl rfl)
theorem dX7_child_22 : decode cX7_child 22 = .ok (.irem, 1) := dk_112 (dk_at dksX7_child_0 22 rfl rfl)
theorem dX7_child_23 : decode cX7_child 23 = .ok (.iadd, 1) := dk_96 (dk_at dksX7_child_0 23 rfl rfl)
theorem dX7_child_24 : decode cX7_child 24 = .ok (.ireturn, 1) := dk_172 (dk_at dksX7_child_1 0 rfl rfl)
abbrev cX7_fromBelow : ByteArray := prog_9_method_8_code
def yX7_fromBelow : MethodName := ⟨RX7, "fromBelow", "()I"⟩
def dkwX7_fromBelow_7 : List UInt8 := [167, 255, 173, 27, 172]
abbrev dktX7_fromBelow_7 : List UInt8 := dkwX7_fromBelow_7 ++ []
def dkwX7_fromBelow_6 : List UInt8 := [42, 180, 0, 9, 28, 51, 153, 0, 12, 21, 4, 153, 0, 7, 4, 167, 0, 4, 3, 96, 60, 132, 2, 1]
abbrev dktX7_fromBelow_6 : List UInt8 := dkwX7_fromBelow_6 ++ dktX7_fromBelow_7
def dkwX7_fromBelow_5 : List UInt8 := [104, 28, 16, 8, 112, 5, 108, 96, 51, 154, 0, 7, 4, 167, 0, 4, 3, 54, 4, 27, 29, 158, 0, 21]
abbrev dktX7_fromBelow_5 : List UInt8 := dkwX7_fromBelow_5 ++ dktX7_fromBelow_6
def dkwX7_fromBelow_4 : List UInt8 := [184, 0, 44, 62, 29, 42, 180, 0, 19, 159, 0, 27, 42, 180, 0, 9, 16, 8, 28, 16, 8, 108, 5, 108]
abbrev dktX7_fromBelow_4 : List UInt8 := dkwX7_fromBelow_4 ++ dktX7_fromBelow_5
def dkwX7_fromBelow_3 : List UInt8 := [167, 255, 198, 132, 1, 1, 167, 255, 182, 3, 60, 3, 61, 28, 16, 64, 162, 0, 83, 28, 42, 180, 0, 19]
abbrev dktX7_fromBelow_3 : List UInt8 := dkwX7_fromBelow_3 ++ dktX7_fromBelow_4
def dkwX7_fromBelow_2 : List UInt8 := [182, 0, 50, 153, 0, 7, 4, 167, 0, 13, 3, 167, 0, 9, 42, 180, 0, 9, 28, 51, 84, 132, 2, 1]
abbrev dktX7_fromBelow_2 : List UInt8 := dkwX7_fromBelow_2 ++ dktX7_fromBelow_3
def dkwX7_fromBelow_1 : List UInt8 := [42, 180, 0, 19, 184, 0, 44, 27, 160, 0, 28, 42, 28, 182, 0, 32, 153, 0, 16, 42, 28, 27]
abbrev dktX7_fromBelow_1 : List UInt8 := dkwX7_fromBelow_1 ++ dktX7_fromBelow_2
def dkwX7_fromBelow_0 : List UInt8 := [4, 60, 27, 42, 180, 0, 19, 163, 0, 72, 3, 61, 28, 16, 64, 162, 0, 58, 42, 180, 0, 9, 28, 28]
abbrev dktX7_fromBelow_0 : List UInt8 := dkwX7_fromBelow_0 ++ dktX7_fromBelow_1
theorem dksX7_fromBelow_0 : cX7_fromBelow.data.toList.drop 0 = dktX7_fromBelow_0 := by decide +kernel
theorem dksX7_fromBelow_1 : cX7_fromBelow.data.toList.drop 24 = dktX7_fromBelow_1 := dk_seg dksX7_fromBelow_0 24 rfl rfl
theorem dksX7_fromBelow_2 : cX7_fromBelow.data.toList.drop 46 = dktX7_fromBelow_2 := dk_seg dksX7_fromBelow_1 22 rfl rfl
theorem dksX7_fromBelow_3 : cX7_fromBelow.data.toList.drop 70 = dktX7_fromBelow_3 := dk_seg dksX7_fromBelow_2 24 rfl rfl
theorem dksX7_fromBelow_4 : cX7_fromBelow.data.toList.drop 94 = dktX7_fromBelow_4 := dk_seg dksX7_fromBelow_3 24 rfl rfl
theorem dksX7_fromBelow_5 : cX7_fromBelow.data.toList.drop 118 = dktX7_fromBelow_5 := dk_seg dksX7_fromBelow_4 24 rfl rfl
theorem dksX7_fromBelow_6 : cX7_fromBelow.data.toList.drop 142 = dktX7_fromBelow_6 := dk_seg dksX7_fromBelow_5 24 rfl rfl
theorem dksX7_fromBelow_7 : cX7_fromBelow.data.toList.drop 166 = dktX7_fromBelow_7 := dk_seg dksX7_fromBelow_6 24 rfl rfl
theorem dX7_fromBelow_0 : decode cX7_fromBelow 0 = .ok (.iconst 1, 1) := dk_4 (dk_at dksX7_fromBelow_0 0 rfl rfl)
theorem dX7_fromBelow_1 : decode cX7_fromBelow 1 = .ok (.istore_n 1, 1) := dk_60 (dk_at dksX7_fromBelow_0 1 rfl rfl)
theorem dX7_fromBelow_2 : decode cX7_fromBelow 2 = .ok (.iload_n 1, 1) := dk_27 (dk_at dksX7_fromBelow_0 2 rfl rfl)
theorem dX7_fromBelow_3 : decode cX7_fromBelow 3 = .ok (.aload_n 0, 1) := dk_42 (dk_at dksX7_fromBelow_0 3 rfl rfl)
theorem dX7_fromBelow_4 : decode cX7_fromBelow 4 = .ok (.getfield 19, 3) := dk_180 0 19 (dk_at dksX7_fromBelow_0 4 rfl rfl)
theorem dX7_fromBelow_7 : decode cX7_fromBelow 7 = .ok (.if_icmp .gt 72, 3) := dk_163 0 72 (dk_at dksX7_fromBelow_0 7 rfl rfl)
theorem dX7_fromBelow_10 : decode cX7_fromBelow 10 = .ok (.iconst 0, 1) := dk_3 (dk_at dksX7_fromBelow_0 10 rfl rfl)
theorem dX7_fromBelow_11 : decode cX7_fromBelow 11 = .ok (.istore_n 2, 1) := dk_61 (dk_at dksX7_fromBelow_0 11 rfl rfl)
theorem dX7_fromBelow_12 : decode cX7_fromBelow 12 = .ok (.iload_n 2, 1) := dk_28 (dk_at dksX7_fromBelow_0 12 rfl rfl)
theorem dX7_fromBelow_13 : decode cX7_fromBelow 13 = .ok (.bipush 64, 2) := dk_16 64 (dk_at dksX7_fromBelow_0 13 rfl rfl)
theorem dX7_fromBelow_15 : decode cX7_fromBelow 15 = .ok (.if_icmp .ge 58, 3) := dk_162 0 58 (dk_at dksX7_fromBelow_0 15 rfl rfl)
theorem dX7_fromBelow_18 : decode cX7_fromBelow 18 = .ok (.aload_n 0, 1) := dk_42 (dk_at dksX7_fromBelow_0 18 rfl rfl)
theorem dX7_fromBelow_19 : decode cX7_fromBelow 19 = .ok (.getfield 9, 3) := dk_180 0 9 (dk_at dksX7_fromBelow_0 19 rfl rfl)
theorem dX7_fromBelow_22 : decode cX7_fromBelow 22 = .ok (.iload_n 2, 1) := dk_28 (dk_at dksX7_fromBelow_0 22 rfl rfl)
theorem dX7_fromBelow_23 : decode cX7_fromBelow 23 = .ok (.iload_n 2, 1) := dk_28 (dk_at dksX7_fromBelow_0 23 rfl rfl)
theorem dX7_fromBelow_24 : decode cX7_fromBelow 24 = .ok (.aload_n 0, 1) := dk_42 (dk_at dksX7_fromBelow_1 0 rfl rfl)
theorem dX7_fromBelow_25 : decode cX7_fromBelow 25 = .ok (.getfield 19, 3) := dk_180 0 19 (dk_at dksX7_fromBelow_1 1 rfl rfl)
theorem dX7_fromBelow_28 : decode cX7_fromBelow 28 = .ok (.invokestatic 44, 3) := dk_184 0 44 (dk_at dksX7_fromBelow_1 4 rfl rfl)
theorem dX7_fromBelow_31 : decode cX7_fromBelow 31 = .ok (.iload_n 1, 1) := dk_27 (dk_at dksX7_fromBelow_1 7 rfl rfl)
theorem dX7_fromBelow_32 : decode cX7_fromBelow 32 = .ok (.if_icmp .ne 28, 3) := dk_160 0 28 (dk_at dksX7_fromBelow_1 8 rfl rfl)
theorem dX7_fromBelow_35 : decode cX7_fromBelow 35 = .ok (.aload_n 0, 1) := dk_42 (dk_at dksX7_fromBelow_1 11 rfl rfl)
theorem dX7_fromBelow_36 : decode cX7_fromBelow 36 = .ok (.iload_n 2, 1) := dk_28 (dk_at dksX7_fromBelow_1 12 rfl rfl)
theorem dX7_fromBelow_37 : decode cX7_fromBelow 37 = .ok (.invokevirtual 32, 3) := dk_182 0 32 (dk_at dksX7_fromBelow_1 13 rfl rfl)
theorem dX7_fromBelow_40 : decode cX7_fromBelow 40 = .ok (.ifCond .eq 16, 3) := dk_153 0 16 (dk_at dksX7_fromBelow_1 16 rfl rfl)
theorem dX7_fromBelow_43 : decode cX7_fromBelow 43 = .ok (.aload_n 0, 1) := dk_42 (dk_at dksX7_fromBelow_1 19 rfl rfl)
theorem dX7_fromBelow_44 : decode cX7_fromBelow 44 = .ok (.iload_n 2, 1) := dk_28 (dk_at dksX7_fromBelow_1 20 rfl rfl)
theorem dX7_fromBelow_45 : decode cX7_fromBelow 45 = .ok (.iload_n 1, 1) := dk_27 (dk_at dksX7_fromBelow_1 21 rfl rfl)
theorem dX7_fromBelow_46 : decode cX7_fromBelow 46 = .ok (.invokevirtual 50, 3) := dk_182 0 50 (dk_at dksX7_fromBelow_2 0 rfl rfl)
theorem dX7_fromBelow_49 : decode cX7_fromBelow 49 = .ok (.ifCond .eq 7, 3) := dk_153 0 7 (dk_at dksX7_fromBelow_2 3 rfl rfl)
theorem dX7_fromBelow_52 : decode cX7_fromBelow 52 = .ok (.iconst 1, 1) := dk_4 (dk_at dksX7_fromBelow_2 6 rfl rfl)
theorem dX7_fromBelow_53 : decode cX7_fromBelow 53 = .ok (.goto 13, 3) := dk_167 0 13 (dk_at dksX7_fromBelow_2 7 rfl rfl)
theorem dX7_fromBelow_56 : decode cX7_fromBelow 56 = .ok (.iconst 0, 1) := dk_3 (dk_at dksX7_fromBelow_2 10 rfl rfl)
theorem dX7_fromBelow_57 : decode cX7_fromBelow 57 = .ok (.goto 9, 3) := dk_167 0 9 (dk_at dksX7_fromBelow_2 11 rfl rfl)
theorem dX7_fromBelow_60 : decode cX7_fromBelow 60 = .ok (.aload_n 0, 1) := dk_42 (dk_at dksX7_fromBelow_2 14 rfl rfl)
theorem dX7_fromBelow_61 : decode cX7_fromBelow 61 = .ok (.getfield 9, 3) := dk_180 0 9 (dk_at dksX7_fromBelow_2 15 rfl rfl)
theorem dX7_fromBelow_64 : decode cX7_fromBelow 64 = .ok (.iload_n 2, 1) := dk_28 (dk_at dksX7_fromBelow_2 18 rfl rfl)
theorem dX7_fromBelow_65 : decode cX7_fromBelow 65 = .ok (.baload, 1) := dk_51 (dk_at dksX7_fromBelow_2 19 rfl rfl)
theorem dX7_fromBelow_66 : decode cX7_fromBelow 66 = .ok (.bastore, 1) := dk_84 (dk_at dksX7_fromBelow_2 20 rfl rfl)
theorem dX7_fromBelow_67 : decode cX7_fromBelow 67 = .ok (.iinc 2 1, 3) := dk_132 2 1 (dk_at dksX7_fromBelow_2 21 rfl rfl)
theorem dX7_fromBelow_70 : decode cX7_fromBelow 70 = .ok (.goto (-58), 3) := dk_167 255 198 (dk_at dksX7_fromBelow_3 0 rfl rfl)
theorem dX7_fromBelow_73 : decode cX7_fromBelow 73 = .ok (.iinc 1 1, 3) := dk_132 1 1 (dk_at dksX7_fromBelow_3 3 rfl rfl)
theorem dX7_fromBelow_76 : decode cX7_fromBelow 76 = .ok (.goto (-74), 3) := dk_167 255 182 (dk_at dksX7_fromBelow_3 6 rfl rfl)
theorem dX7_fromBelow_79 : decode cX7_fromBelow 79 = .ok (.iconst 0, 1) := dk_3 (dk_at dksX7_fromBelow_3 9 rfl rfl)
theorem dX7_fromBelow_80 : decode cX7_fromBelow 80 = .ok (.istore_n 1, 1) := dk_60 (dk_at dksX7_fromBelow_3 10 rfl rfl)
theorem dX7_fromBelow_81 : decode cX7_fromBelow 81 = .ok (.iconst 0, 1) := dk_3 (dk_at dksX7_fromBelow_3 11 rfl rfl)
theorem dX7_fromBelow_82 : decode cX7_fromBelow 82 = .ok (.istore_n 2, 1) := dk_61 (dk_at dksX7_fromBelow_3 12 rfl rfl)
theorem dX7_fromBelow_83 : decode cX7_fromBelow 83 = .ok (.iload_n 2, 1) := dk_28 (dk_at dksX7_fromBelow_3 13 rfl rfl)
theorem dX7_fromBelow_84 : decode cX7_fromBelow 84 = .ok (.bipush 64, 2) := dk_16 64 (dk_at dksX7_fromBelow_3 14 rfl rfl)
theorem dX7_fromBelow_86 : decode cX7_fromBelow 86 = .ok (.if_icmp .ge 83, 3) := dk_162 0 83 (dk_at dksX7_fromBelow_3 16 rfl rfl)
theorem dX7_fromBelow_89 : decode cX7_fromBelow 89 = .ok (.iload_n 2, 1) := dk_28 (dk_at dksX7_fromBelow_3 19 rfl rfl)
theorem dX7_fromBelow_90 : decode cX7_fromBelow 90 = .ok (.aload_n 0, 1) := dk_42 (dk_at dksX7_fromBelow_3 20 rfl rfl)
theorem dX7_fromBelow_91 : decode cX7_fromBelow 91 = .ok (.getfield 19, 3) := dk_180 0 19 (dk_at dksX7_fromBelow_3 21 rfl rfl)
theorem dX7_fromBelow_94 : decode cX7_fromBelow 94 = .ok (.invokestatic 44, 3) := dk_184 0 44 (dk_at dksX7_fromBelow_4 0 rfl rfl)
theorem dX7_fromBelow_97 : decode cX7_fromBelow 97 = .ok (.istore_n 3, 1) := dk_62 (dk_at dksX7_fromBelow_4 3 rfl rfl)
theorem dX7_fromBelow_98 : decode cX7_fromBelow 98 = .ok (.iload_n 3, 1) := dk_29 (dk_at dksX7_fromBelow_4 4 rfl rfl)
theorem dX7_fromBelow_99 : decode cX7_fromBelow 99 = .ok (.aload_n 0, 1) := dk_42 (dk_at dksX7_fromBelow_4 5 rfl rfl)
theorem dX7_fromBelow_100 : decode cX7_fromBelow 100 = .ok (.getfield 19, 3) := dk_180 0 19 (dk_at dksX7_fromBelow_4 6 rfl rfl)
theorem dX7_fromBelow_103 : decode cX7_fromBelow 103 = .ok (.if_icmp .eq 27, 3) := dk_159 0 27 (dk_at dksX7_fromBelow_4 9 rfl rfl)
theorem dX7_fromBelow_106 : decode cX7_fromBelow 106 = .ok (.aload_n 0, 1) := dk_42 (dk_at dksX7_fromBelow_4 12 rfl rfl)
theorem dX7_fromBelow_107 : decode cX7_fromBelow 107 = .ok (.getfield 9, 3) := dk_180 0 9 (dk_at dksX7_fromBelow_4 13 rfl rfl)
theorem dX7_fromBelow_110 : decode cX7_fromBelow 110 = .ok (.bipush 8, 2) := dk_16 8 (dk_at dksX7_fromBelow_4 16 rfl rfl)
theorem dX7_fromBelow_112 : decode cX7_fromBelow 112 = .ok (.iload_n 2, 1) := dk_28 (dk_at dksX7_fromBelow_4 18 rfl rfl)
theorem dX7_fromBelow_113 : decode cX7_fromBelow 113 = .ok (.bipush 8, 2) := dk_16 8 (dk_at dksX7_fromBelow_4 19 rfl rfl)
theorem dX7_fromBelow_115 : decode cX7_fromBelow 115 = .ok (.idiv, 1) := dk_108 (dk_at dksX7_fromBelow_4 21 rfl rfl)
theorem dX7_fromBelow_116 : decode cX7_fromBelow 116 = .ok (.iconst 2, 1) := dk_5 (dk_at dksX7_fromBelow_4 22 rfl rfl)
theorem dX7_fromBelow_117 : decode cX7_fromBelow 117 = .ok (.idiv, 1) := dk_108 (dk_at dksX7_fromBelow_4 23 rfl rfl)
theorem dX7_fromBelow_118 : decode cX7_fromBelow 118 = .ok (.imul, 1) := dk_104 (dk_at dksX7_fromBelow_5 0 rfl rfl)
theorem dX7_fromBelow_119 : decode cX7_fromBelow 119 = .ok (.iload_n 2, 1) := dk_28 (dk_at dksX7_fromBelow_5 1 rfl rfl)
theorem dX7_fromBelow_120 : decode cX7_fromBelow 120 = .ok (.bipush 8, 2) := dk_16 8 (dk_at dksX7_fromBelow_5 2 rfl rfl)
theorem dX7_fromBelow_122 : decode cX7_fromBelow 122 = .ok (.irem, 1) := dk_112 (dk_at dksX7_fromBelow_5 4 rfl rfl)
theorem dX7_fromBelow_123 : decode cX7_fromBelow 123 = .ok (.iconst 2, 1) := dk_5 (dk_at dksX7_fromBelow_5 5 rfl rfl)
theorem dX7_fromBelow_124 : decode cX7_fromBelow 124 = .ok (.idiv, 1) := dk_108 (dk_at dksX7_fromBelow_5 6 rfl rfl)
theorem dX7_fromBelow_125 : decode cX7_fromBelow 125 = .ok (.iadd, 1) := dk_96 (dk_at dksX7_fromBelow_5 7 rfl rfl)
theorem dX7_fromBelow_126 : decode cX7_fromBelow 126 = .ok (.baload, 1) := dk_51 (dk_at dksX7_fromBelow_5 8 rfl rfl)
theorem dX7_fromBelow_127 : decode cX7_fromBelow 127 = .ok (.ifCond .ne 7, 3) := dk_154 0 7 (dk_at dksX7_fromBelow_5 9 rfl rfl)
theorem dX7_fromBelow_130 : decode cX7_fromBelow 130 = .ok (.iconst 1, 1) := dk_4 (dk_at dksX7_fromBelow_5 12 rfl rfl)
theorem dX7_fromBelow_131 : decode cX7_fromBelow 131 = .ok (.goto 4, 3) := dk_167 0 4 (dk_at dksX7_fromBelow_5 13 rfl rfl)
theorem dX7_fromBelow_134 : decode cX7_fromBelow 134 = .ok (.iconst 0, 1) := dk_3 (dk_at dksX7_fromBelow_5 16 rfl rfl)
theorem dX7_fromBelow_135 : decode cX7_fromBelow 135 = .ok (.istore 4, 2) := dk_54 4 (dk_at dksX7_fromBelow_5 17 rfl rfl)
theorem dX7_fromBelow_137 : decode cX7_fromBelow 137 = .ok (.iload_n 1, 1) := dk_27 (dk_at dksX7_fromBelow_5 19 rfl rfl)
theorem dX7_fromBelow_138 : decode cX7_fromBelow 138 = .ok (.iload_n 3, 1) := dk_29 (dk_at dksX7_fromBelow_5 20 rfl rfl)
theorem dX7_fromBelow_139 : decode cX7_fromBelow 139 = .ok (.ifCond .le 21, 3) := dk_158 0 21 (dk_at dksX7_fromBelow_5 21 rfl rfl)
theorem dX7_fromBelow_142 : decode cX7_fromBelow 142 = .ok (.aload_n 0, 1) := dk_42 (dk_at dksX7_fromBelow_6 0 rfl rfl)
theorem dX7_fromBelow_143 : decode cX7_fromBelow 143 = .ok (.getfield 9, 3) := dk_180 0 9 (dk_at dksX7_fromBelow_6 1 rfl rfl)
theorem dX7_fromBelow_146 : decode cX7_fromBelow 146 = .ok (.iload_n 2, 1) := dk_28 (dk_at dksX7_fromBelow_6 4 rfl rfl)
theorem dX7_fromBelow_147 : decode cX7_fromBelow 147 = .ok (.baload, 1) := dk_51 (dk_at dksX7_fromBelow_6 5 rfl rfl)
theorem dX7_fromBelow_148 : decode cX7_fromBelow 148 = .ok (.ifCond .eq 12, 3) := dk_153 0 12 (dk_at dksX7_fromBelow_6 6 rfl rfl)
theorem dX7_fromBelow_151 : decode cX7_fromBelow 151 = .ok (.iload 4, 2) := dk_21 4 (dk_at dksX7_fromBelow_6 9 rfl rfl)
theorem dX7_fromBelow_153 : decode cX7_fromBelow 153 = .ok (.ifCond .eq 7, 3) := dk_153 0 7 (dk_at dksX7_fromBelow_6 11 rfl rfl)
theorem dX7_fromBelow_156 : decode cX7_fromBelow 156 = .ok (.iconst 1, 1) := dk_4 (dk_at dksX7_fromBelow_6 14 rfl rfl)
theorem dX7_fromBelow_157 : decode cX7_fromBelow 157 = .ok (.goto 4, 3) := dk_167 0 4 (dk_at dksX7_fromBelow_6 15 rfl rfl)
theorem dX7_fromBelow_160 : decode cX7_fromBelow 160 = .ok (.iconst 0, 1) := dk_3 (dk_at dksX7_fromBelow_6 18 rfl rfl)
theorem dX7_fromBelow_161 : decode cX7_fromBelow 161 = .ok (.iadd, 1) := dk_96 (dk_at dksX7_fromBelow_6 19 rfl rfl)
theorem dX7_fromBelow_162 : decode cX7_fromBelow 162 = .ok (.istore_n 1, 1) := dk_60 (dk_at dksX7_fromBelow_6 20 rfl rfl)
theorem dX7_fromBelow_163 : decode cX7_fromBelow 163 = .ok (.iinc 2 1, 3) := dk_132 2 1 (dk_at dksX7_fromBelow_6 21 rfl rfl)
theorem dX7_fromBelow_166 : decode cX7_fromBelow 166 = .ok (.goto (-83), 3) := dk_167 255 173 (dk_at dksX7_fromBelow_7 0 rfl rfl)
theorem dX7_fromBelow_169 : decode cX7_fromBelow 169 = .ok (.iload_n 1, 1) := dk_27 (dk_at dksX7_fromBelow_7 3 rfl rfl)
theorem dX7_fromBelow_170 : decode cX7_fromBelow 170 = .ok (.ireturn, 1) := dk_172 (dk_at dksX7_fromBelow_7 4 rfl rfl)
abbrev cX7_areSmall : ByteArray := prog_9_method_9_code
def yX7_areSmall : MethodName := ⟨RX7, "areSmall", "(II)Z"⟩
def dkwX7_areSmall_1 : List UInt8 := [184, 0, 36, 51, 126, 62, 132, 4, 1, 167, 255, 228, 29, 172]
abbrev dktX7_areSmall_1 : List UInt8 := dkwX7_areSmall_1 ++ []
def dkwX7_areSmall_0 : List UInt8 := [4, 62, 3, 54, 4, 21, 4, 7, 162, 0, 28, 28, 4, 164, 0, 23, 29, 42, 180, 0, 9, 27, 21, 4]
abbrev dktX7_areSmall_0 : List UInt8 := dkwX7_areSmall_0 ++ dktX7_areSmall_1
theorem dksX7_areSmall_0 : cX7_areSmall.data.toList.drop 0 = dktX7_areSmall_0 := by decide +kernel
theorem dksX7_areSmall_1 : cX7_areSmall.data.toList.drop 24 = dktX7_areSmall_1 := dk_seg dksX7_areSmall_0 24 rfl rfl
theorem dX7_areSmall_0 : decode cX7_areSmall 0 = .ok (.iconst 1, 1) := dk_4 (dk_at dksX7_areSmall_0 0 rfl rfl)
theorem dX7_areSmall_1 : decode cX7_areSmall 1 = .ok (.istore_n 3, 1) := dk_62 (dk_at dksX7_areSmall_0 1 rfl rfl)
theorem dX7_areSmall_2 : decode cX7_areSmall 2 = .ok (.iconst 0, 1) := dk_3 (dk_at dksX7_areSmall_0 2 rfl rfl)
theorem dX7_areSmall_3 : decode cX7_areSmall 3 = .ok (.istore 4, 2) := dk_54 4 (dk_at dksX7_areSmall_0 3 rfl rfl)
theorem dX7_areSmall_5 : decode cX7_areSmall 5 = .ok (.iload 4, 2) := dk_21 4 (dk_at dksX7_areSmall_0 5 rfl rfl)
theorem dX7_areSmall_7 : decode cX7_areSmall 7 = .ok (.iconst 4, 1) := dk_7 (dk_at dksX7_areSmall_0 7 rfl rfl)
theorem dX7_areSmall_8 : decode cX7_areSmall 8 = .ok (.if_icmp .ge 28, 3) := dk_162 0 28 (dk_at dksX7_areSmall_0 8 rfl rfl)
theorem dX7_areSmall_11 : decode cX7_areSmall 11 = .ok (.iload_n 2, 1) := dk_28 (dk_at dksX7_areSmall_0 11 rfl rfl)
theorem dX7_areSmall_12 : decode cX7_areSmall 12 = .ok (.iconst 1, 1) := dk_4 (dk_at dksX7_areSmall_0 12 rfl rfl)
theorem dX7_areSmall_13 : decode cX7_areSmall 13 = .ok (.if_icmp .le 23, 3) := dk_164 0 23 (dk_at dksX7_areSmall_0 13 rfl rfl)
theorem dX7_areSmall_16 : decode cX7_areSmall 16 = .ok (.iload_n 3, 1) := dk_29 (dk_at dksX7_areSmall_0 16 rfl rfl)
theorem dX7_areSmall_17 : decode cX7_areSmall 17 = .ok (.aload_n 0, 1) := dk_42 (dk_at dksX7_areSmall_0 17 rfl rfl)
theorem dX7_areSmall_18 : decode cX7_areSmall 18 = .ok (.getfield 9, 3) := dk_180 0 9 (dk_at dksX7_areSmall_0 18 rfl rfl)
theorem dX7_areSmall_21 : decode cX7_areSmall 21 = .ok (.iload_n 1, 1) := dk_27 (dk_at dksX7_areSmall_0 21 rfl rfl)
theorem dX7_areSmall_22 : decode cX7_areSmall 22 = .ok (.iload 4, 2) := dk_21 4 (dk_at dksX7_areSmall_0 22 rfl rfl)
theorem dX7_areSmall_24 : decode cX7_areSmall 24 = .ok (.invokestatic 36, 3) := dk_184 0 36 (dk_at dksX7_areSmall_1 0 rfl rfl)
theorem dX7_areSmall_27 : decode cX7_areSmall 27 = .ok (.baload, 1) := dk_51 (dk_at dksX7_areSmall_1 3 rfl rfl)
theorem dX7_areSmall_28 : decode cX7_areSmall 28 = .ok (.iand, 1) := dk_126 (dk_at dksX7_areSmall_1 4 rfl rfl)
theorem dX7_areSmall_29 : decode cX7_areSmall 29 = .ok (.istore_n 3, 1) := dk_62 (dk_at dksX7_areSmall_1 5 rfl rfl)
theorem dX7_areSmall_30 : decode cX7_areSmall 30 = .ok (.iinc 4 1, 3) := dk_132 4 1 (dk_at dksX7_areSmall_1 6 rfl rfl)
theorem dX7_areSmall_33 : decode cX7_areSmall 33 = .ok (.goto (-28), 3) := dk_167 255 228 (dk_at dksX7_areSmall_1 9 rfl rfl)
theorem dX7_areSmall_36 : decode cX7_areSmall 36 = .ok (.iload_n 3, 1) := dk_29 (dk_at dksX7_areSmall_1 12 rfl rfl)
theorem dX7_areSmall_37 : decode cX7_areSmall 37 = .ok (.ireturn, 1) := dk_172 (dk_at dksX7_areSmall_1 13 rfl rfl)
theorem q119 : (Jvm.Cond.initialized "CrumbPictures$Trees") ∈ lw_all := lw_g (lw_at lw_m1 14 rfl) rfl
theorem q371 : (Jvm.Cond.instantiable "CrumbPictures$Trees" (4 : Nat)) ∈ lw_all := lw_g (lw_at lw_m2 26 rfl) rfl
theorem q373 : (Jvm.Cond.instanceMethod ({ cls := "CrumbPictures$Trees", name := "<init>", desc := "()V" } : Jvm.MethodName)) ∈ lw_all := lw_g (lw_at lw_m2 28 rfl) rfl
theorem q374 : (Jvm.Cond.code ({ cls := "CrumbPictures$Trees", name := "<init>", desc := "()V" } : Jvm.MethodName) prog_9_method_1_code (1 : Nat) (Option.none : Option Jvm.ClassFile.FieldType)) ∈ lw_all := lw_g (lw_at lw_m2 29 rfl) rfl
theorem q375 : (Jvm.Cond.methodLink "CrumbPictures$Trees" (3 : Nat) ({ cls := "java/lang/Object", name := "<init>", desc := "()V" } : Jvm.MethodName)) ∈ lw_all := lw_g (lw_at lw_m2 30 rfl) rfl
theorem q376 : (Jvm.Cond.fieldLink "CrumbPictures$Trees" (9 : Nat) "CrumbPictures$Trees" "small" "[Z") ∈ lw_all := lw_g (lw_at lw_m2 31 rfl) rfl
theorem q377 : (Jvm.Cond.fieldLink "CrumbPictures$Trees" (15 : Nat) "CrumbPictures$Trees" "parts" "[I") ∈ lw_all := lw_g (lw_at lw_m2 32 rfl) rfl
theorem q378 : (Jvm.Cond.fieldLink "CrumbPictures$Trees" (19 : Nat) "CrumbPictures$Trees" "levels" "I") ∈ lw_all := lw_g (lw_at lw_m2 33 rfl) rfl
theorem q379 : (Jvm.Cond.fieldLink "CrumbPictures$Trees" (23 : Nat) "CrumbPictures$Trees" "threshold" "I") ∈ lw_all := lw_g (lw_at lw_m2 34 rfl) rfl
theorem q380 : (Jvm.Cond.laysFinal "CrumbPictures$Trees" "CrumbPictures$Trees" "small" "[Z") ∈ lw_all := lw_g (lw_at lw_m2 35 rfl) rfl
theorem q381 : (Jvm.Cond.soleField "CrumbPictures$Trees" "small") ∈ lw_all := lw_g (lw_at lw_m2 36 rfl) rfl
theorem q382 : (Jvm.Cond.lays "CrumbPictures$Trees" "CrumbPictures$Trees" "parts" "[I") ∈ lw_all := lw_g (lw_at lw_m2 37 rfl) rfl
theorem q383 : (Jvm.Cond.soleField "CrumbPictures$Trees" "parts") ∈ lw_all := lw_g (lw_at lw_m2 38 rfl) rfl
theorem q384 : (Jvm.Cond.lays "CrumbPictures$Trees" "CrumbPictures$Trees" "levels" "I") ∈ lw_all := lw_g (lw_at lw_m2 39 rfl) rfl
theorem q385 : (Jvm.Cond.soleField "CrumbPictures$Trees" "levels") ∈ lw_all := lw_g (lw_at lw_m2 40 rfl) rfl
theorem q386 : (Jvm.Cond.lays "CrumbPictures$Trees" "CrumbPictures$Trees" "threshold" "I") ∈ lw_all := lw_g (lw_at lw_m2 41 rfl) rfl
theorem q387 : (Jvm.Cond.soleField "CrumbPictures$Trees" "threshold") ∈ lw_all := lw_g (lw_at lw_m2 42 rfl) rfl
theorem q388 : (Jvm.Cond.superclass "CrumbPictures$Trees" "java/lang/Object") ∈ lw_all := lw_g (lw_at lw_m2 43 rfl) rfl
theorem q606 : (Jvm.Cond.selects "CrumbPictures$Trees" ({ cls := "java/lang/Object", name := "getClass", desc := "()Ljava/lang/Class;" } : Jvm.MethodName) ({ cls := "java/lang/Object", name := "getClass", desc := "()Ljava/lang/Class;" } : Jvm.MethodName)) ∈ lw_all := lw_g (lw_at lw_m3 21 rfl) rfl
theorem q1262 : (Jvm.Cond.privateMethod ({ cls := "CrumbPictures$Trees", name := "of", desc := "([III)LCrumbPictures$Trees;" } : Jvm.MethodName)) ∈ lw_tbl := lw_at lw_m5 197 rfl
theorem q1263 : (Jvm.Cond.instanceMethod ({ cls := "CrumbPictures$Trees", name := "of", desc := "([III)LCrumbPictures$Trees;" } : Jvm.MethodName)) ∈ lw_all := lw_g (lw_at lw_m5 198 rfl) rfl
theorem q1264 : (Jvm.Cond.code ({ cls := "CrumbPictures$Trees", name := "of", desc := "([III)LCrumbPictures$Trees;" } : Jvm.MethodName) prog_9_method_2_code (4 : Nat) (Option.some (Jvm.ClassFile.FieldType.object "CrumbPictures$Trees"))) ∈ lw_all := lw_g (lw_at lw_m5 199 rfl) rfl
theorem q1266 : (Jvm.Cond.instanceMethod ({ cls := "CrumbPictures$Trees", name := "fromAbove", desc := "()I" } : Jvm.MethodName)) ∈ lw_all := lw_g (lw_at lw_m5 201 rfl) rfl
theorem q1267 : (Jvm.Cond.selects "CrumbPictures$Trees" ({ cls := "CrumbPictures$Trees", name := "fromAbove", desc := "()I" } : Jvm.MethodName) ({ cls := "CrumbPictures$Trees", name := "fromAbove", desc := "()I" } : Jvm.MethodName)) ∈ lw_all := lw_g (lw_at lw_m5 202 rfl) rfl
theorem q1268 : (Jvm.Cond.code ({ cls := "CrumbPictures$Trees", name := "fromAbove", desc := "()I" } : Jvm.MethodName) prog_9_method_6_code (3 : Nat) (Option.some Jvm.ClassFile.FieldType.int)) ∈ lw_all := lw_g (lw_at lw_m5 203 rfl) rfl
theorem q1269 : (Jvm.Cond.methodLinkNest "CrumbPictures$Trees" (44 : Nat) ({ cls := "CrumbPictures", name := "levelOf", desc := "(II)I" } : Jvm.MethodName) "CrumbPictures") ∈ lw_tbl := lw_at lw_m5 204 rfl
theorem q1270 : (Jvm.Cond.methodLink "CrumbPictures$Trees" (47 : Nat) ({ cls := "CrumbPictures$Trees", name := "count", desc := "(II)I" } : Jvm.MethodName)) ∈ lw_all := lw_g (lw_at lw_m5 205 rfl) rfl
theorem q1271 : (Jvm.Cond.privateMethod ({ cls := "CrumbPictures$Trees", name := "count", desc := "(II)I" } : Jvm.MethodName)) ∈ lw_tbl := lw_at lw_m5 206 rfl
theorem q1272 : (Jvm.Cond.instanceMethod ({ cls := "CrumbPictures$Trees", name := "count", desc := "(II)I" } : Jvm.MethodName)) ∈ lw_all := lw_g (lw_at lw_m5 207 rfl) rfl
theorem q1273 : (Jvm.Cond.code ({ cls := "CrumbPictures$Trees", name := "count", desc := "(II)I" } : Jvm.MethodName) prog_9_method_7_code (5 : Nat) (Option.some Jvm.ClassFile.FieldType.int)) ∈ lw_all := lw_g (lw_at lw_m5 208 rfl) rfl
theorem q1274 : (Jvm.Cond.methodLink "CrumbPictures$Trees" (40 : Nat) ({ cls := "CrumbPictures$Trees", name := "isTree", desc := "(II)Z" } : Jvm.MethodName)) ∈ lw_all := lw_g (lw_at lw_m5 209 rfl) rfl
theorem q1275 : (Jvm.Cond.instanceMethod ({ cls := "CrumbPictures$Trees", name := "isTree", desc := "(II)Z" } : Jvm.MethodName)) ∈ lw_all := lw_g (lw_at lw_m5 210 rfl) rfl
theorem q1276 : (Jvm.Cond.selects "CrumbPictures$Trees" ({ cls := "CrumbPictures$Trees", name := "isTree", desc := "(II)Z" } : Jvm.MethodName) ({ cls := "CrumbPictures$Trees", name := "isTree", desc := "(II)Z" } : Jvm.MethodName)) ∈ lw_all := lw_g (lw_at lw_m5 211 rfl) rfl
theorem q1277 : (Jvm.Cond.code ({ cls := "CrumbPictures$Trees", name := "isTree", desc := "(II)Z" } : Jvm.MethodName) prog_9_method_5_code (5 : Nat) (Option.some Jvm.ClassFile.FieldType.boolean)) ∈ lw_all := lw_g (lw_at lw_m5 212 rfl) rfl
theorem q1278 : (Jvm.Cond.methodLink "CrumbPictures$Trees" (32 : Nat) ({ cls := "CrumbPictures$Trees", name := "isNear", desc := "(I)Z" } : Jvm.MethodName)) ∈ lw_all := lw_g (lw_at lw_m5 213 rfl) rfl
theorem q1279 : (Jvm.Cond.privateMethod ({ cls := "CrumbPictures$Trees", name := "isNear", desc := "(I)Z" } : Jvm.MethodName)) ∈ lw_tbl := lw_at lw_m5 214 rfl
theorem q1280 : (Jvm.Cond.instanceMethod ({ cls := "CrumbPictures$Trees", name := "isNear", desc := "(I)Z" } : Jvm.MethodName)) ∈ lw_all := lw_g (lw_at lw_m5 215 rfl) rfl
theorem q1281 : (Jvm.Cond.code ({ cls := "CrumbPictures$Trees", name := "isNear", desc := "(I)Z" } : Jvm.MethodName) prog_9_method_3_code (2 : Nat) (Option.some Jvm.ClassFile.FieldType.boolean)) ∈ lw_all := lw_g (lw_at lw_m5 216 rfl) rfl
theorem q1282 : (Jvm.Cond.methodLink "CrumbPictures$Trees" (26 : Nat) ({ cls := "java/lang/Math", name := "abs", desc := "(I)I" } : Jvm.MethodName)) ∈ lw_all := lw_g (lw_at lw_m5 217 rfl) rfl
theorem q1283 : (Jvm.Cond.methodLink "CrumbPictures$Trees" (36 : Nat) ({ cls := "CrumbPictures$Trees", name := "child", desc := "(II)I" } : Jvm.MethodName)) ∈ lw_all := lw_g (lw_at lw_m5 218 rfl) rfl
theorem q1284 : (Jvm.Cond.static ({ cls := "CrumbPictures$Trees", name := "child", desc := "(II)I" } : Jvm.MethodName)) ∈ lw_all := lw_g (lw_at lw_m5 219 rfl) rfl
theorem q1285 : (Jvm.Cond.code ({ cls := "CrumbPictures$Trees", name := "child", desc := "(II)I" } : Jvm.MethodName) prog_9_method_4_code (2 : Nat) (Option.some Jvm.ClassFile.FieldType.int)) ∈ lw_all := lw_g (lw_at lw_m5 220 rfl) rfl
theorem q1287 : (Jvm.Cond.instanceMethod ({ cls := "CrumbPictures$Trees", name := "fromBelow", desc := "()I" } : Jvm.MethodName)) ∈ lw_all := lw_g (lw_at lw_m5 222 rfl) rfl
theorem q1288 : (Jvm.Cond.selects "CrumbPictures$Trees" ({ cls := "CrumbPictures$Trees", name := "fromBelow", desc := "()I" } : Jvm.MethodName) ({ cls := "CrumbPictures$Trees", name := "fromBelow", desc := "()I" } : Jvm.MethodName)) ∈ lw_all := lw_g (lw_at lw_m5 223 rfl) rfl
theorem q1289 : (Jvm.Cond.code ({ cls := "CrumbPictures$Trees", name := "fromBelow", desc := "()I" } : Jvm.MethodName) prog_9_method_8_code (5 : Nat) (Option.some Jvm.ClassFile.FieldType.int)) ∈ lw_all := lw_g (lw_at lw_m5 224 rfl) rfl
theorem q1290 : (Jvm.Cond.methodLink "CrumbPictures$Trees" (50 : Nat) ({ cls := "CrumbPictures$Trees", name := "areSmall", desc := "(II)Z" } : Jvm.MethodName)) ∈ lw_all := lw_g (lw_at lw_m5 225 rfl) rfl
theorem q1291 : (Jvm.Cond.privateMethod ({ cls := "CrumbPictures$Trees", name := "areSmall", desc := "(II)Z" } : Jvm.MethodName)) ∈ lw_tbl := lw_at lw_m5 226 rfl
theorem q1292 : (Jvm.Cond.instanceMethod ({ cls := "CrumbPictures$Trees", name := "areSmall", desc := "(II)Z" } : Jvm.MethodName)) ∈ lw_all := lw_g (lw_at lw_m5 227 rfl) rfl
theorem q1293 : (Jvm.Cond.code ({ cls := "CrumbPictures$Trees", name := "areSmall", desc := "(II)Z" } : Jvm.MethodName) prog_9_method_9_code (5 : Nat) (Option.some Jvm.ClassFile.FieldType.boolean)) ∈ lw_all := lw_g (lw_at lw_m5 228 rfl) rfl
theorem q2160 : (Jvm.Cond.castable "CrumbPictures$Trees" "java/lang/Object") ∈ lw_tbl := lw_at lw_m9 135 rfl
theorem in_X7 : ∀ w ∈ wsX70, w ∈ lw_all := lw_in wsX70 [380, 382, 384, 386] (by decide +kernel) (by decide +kernel)
/-! CrumbPictures$Code -/
set_option maxRecDepth 100000
def RX8 : String := "CrumbPictures$Code"
def TX8 : u_T := fun k => match k with
  | 0 => ("CrumbPictures$Code", "bits", "Ljava/util/BitSet;", true)
  | 1 => ("CrumbPictures$Code", "parts", "[I", true)
  | 2 => ("CrumbPictures$Code", "length", "I", false)
  | _ => ("CrumbPictures$Code", "at", "I", false)
def tyX8 : Nat → FieldType := fun k => match k with
  | 0 => .object "java/util/BitSet"
  | 1 => .array .int
  | 2 => .int
  | _ => .int
abbrev wsX80 : List Cond := u_ws RX8 TX8 4
theorem nmX8 : ∀ a, a < 4 → ∀ b, b < 4 → a ≠ b → (TX8 a).2.1 ≠ (TX8 b).2.1 := by decide +kernel
theorem tyX8_ok : ∀ k, k < 4 → parseFieldDescriptor (TX8 k).2.2.1 = some (tyX8 k) := by decide +kernel
abbrev cX8_init : ByteArray := prog_4_method_1_code
def yX8_init : MethodName := ⟨RX8, "<init>", "()V"⟩
def dkwX8_init_0 : List UInt8 := [42, 183, 0, 3, 42, 187, 0, 9, 89, 183, 0, 11, 181, 0, 12, 42, 16, 64, 188, 10, 181, 0, 18, 177]
abbrev dktX8_init_0 : List UInt8 := dkwX8_init_0 ++ []
theorem dksX8_init_0 : cX8_init.data.toList.drop 0 = dktX8_init_0 := by decide +kernel
theorem dX8_init_0 : decode cX8_init 0 = .ok (.aload_n 0, 1) := dk_42 (dk_at dksX8_init_0 0 rfl rfl)
theorem dX8_init_1 : decode cX8_init 1 = .ok (.invokespecial 3, 3) := dk_183 0 3 (dk_at dksX8_init_0 1 rfl rfl)
theorem dX8_init_4 : decode cX8_init 4 = .ok (.aload_n 0, 1) := dk_42 (dk_at dksX8_init_0 4 rfl rfl)
theorem dX8_init_5 : decode cX8_init 5 = .ok (.new 9, 3) := dk_187 0 9 (dk_at dksX8_init_0 5 rfl rfl)
theorem dX8_init_8 : decode cX8_init 8 = .ok (.dup, 1) := dk_89 (dk_at dksX8_init_0 8 rfl rfl)
theorem dX8_init_9 : decode cX8_init 9 = .ok (.invokespecial 11, 3) := dk_183 0 11 (dk_at dksX8_init_0 9 rfl rfl)
theorem dX8_init_12 : decode cX8_init 12 = .ok (.putfield 12, 3) := dk_181 0 12 (dk_at dksX8_init_0 12 rfl rfl)
theorem dX8_init_15 : decode cX8_init 15 = .ok (.aload_n 0, 1) := dk_42 (dk_at dksX8_init_0 15 rfl rfl)
theorem dX8_init_16 : decode cX8_init 16 = .ok (.bipush 64, 2) := dk_16 64 (dk_at dksX8_init_0 16 rfl rfl)
theorem dX8_init_18 : decode cX8_init 18 = .ok (.newarray .int, 2) := dk_188_10 (dk_at dksX8_init_0 18 rfl rfl)
theorem dX8_init_20 : decode cX8_init 20 = .ok (.putfield 18, 3) := dk_181 0 18 (dk_at dksX8_init_0 20 rfl rfl)
theorem dX8_init_23 : decode cX8_init 23 = .ok (.return_, 1) := dk_177 (dk_at dksX8_init_0 23 rfl rfl)
abbrev cX8_write : ByteArray := prog_4_method_4_code
def yX8_write : MethodName := ⟨RX8, "write", "([ILCrumbPictures$Order;)LCrumbPictures$Code;"⟩
def dkwX8_write_4 : List UInt8 := [184, 0, 61, 96, 62, 167, 255, 174, 42, 176]
abbrev dktX8_write_4 : List UInt8 := dkwX8_write_4 ++ []
def dkwX8_write_3 : List UInt8 := [182, 0, 36, 42, 43, 44, 180, 0, 51, 29, 46, 46, 184, 0, 56, 182, 0, 47, 29, 4, 21, 4]
abbrev dktX8_write_3 : List UInt8 := dkwX8_write_3 ++ dktX8_write_4
def dkwX8_write_2 : List UInt8 := [42, 4, 182, 0, 36, 42, 43, 44, 180, 0, 51, 29, 46, 46, 156, 0, 7, 4, 167, 0, 4, 3]
abbrev dktX8_write_2 : List UInt8 := dkwX8_write_2 ++ dktX8_write_3
def dkwX8_write_1 : List UInt8 := [184, 0, 43, 54, 4, 21, 4, 158, 0, 17, 42, 3, 182, 0, 36, 42, 21, 4, 182, 0, 47, 167, 0, 43]
abbrev dktX8_write_1 : List UInt8 := dkwX8_write_1 ++ dktX8_write_2
def dkwX8_write_0 : List UInt8 := [42, 180, 0, 12, 182, 0, 40, 42, 3, 181, 0, 22, 3, 62, 29, 16, 64, 162, 0, 82, 43, 44, 29]
abbrev dktX8_write_0 : List UInt8 := dkwX8_write_0 ++ dktX8_write_1
theorem dksX8_write_0 : cX8_write.data.toList.drop 0 = dktX8_write_0 := by decide +kernel
theorem dksX8_write_1 : cX8_write.data.toList.drop 23 = dktX8_write_1 := dk_seg dksX8_write_0 23 rfl rfl
theorem dksX8_write_2 : cX8_write.data.toList.drop 47 = dktX8_write_2 := dk_seg dksX8_write_1 24 rfl rfl
theorem dksX8_write_3 : cX8_write.data.toList.drop 69 = dktX8_write_3 := dk_seg dksX8_write_2 22 rfl rfl
theorem dksX8_write_4 : cX8_write.data.toList.drop 91 = dktX8_write_4 := dk_seg dksX8_write_3 22 rfl rfl
theorem dX8_write_0 : decode cX8_write 0 = .ok (.aload_n 0, 1) := dk_42 (dk_at dksX8_write_0 0 rfl rfl)
theorem dX8_write_1 : decode cX8_write 1 = .ok (.getfield 12, 3) := dk_180 0 12 (dk_at dksX8_write_0 1 rfl rfl)
theorem dX8_write_4 : decode cX8_write 4 = .ok (.invokevirtual 40, 3) := dk_182 0 40 (dk_at dksX8_write_0 4 rfl rfl)
theorem dX8_write_7 : decode cX8_write 7 = .ok (.aload_n 0, 1) := dk_42 (dk_at dksX8_write_0 7 rfl rfl)
theorem dX8_write_8 : decode cX8_write 8 = .ok (.iconst 0, 1) := dk_3 (dk_at dksX8_write_0 8 rfl rfl)
theorem dX8_write_9 : decode cX8_write 9 = .ok (.putfield 22, 3) := dk_181 0 22 (dk_at dksX8_write_0 9 rfl rfl)
theorem dX8_write_12 : decode cX8_write 12 = .ok (.iconst 0, 1) := dk_3 (dk_at dksX8_write_0 12 rfl rfl)
theorem dX8_write_13 : decode cX8_write 13 = .ok (.istore_n 3, 1) := dk_62 (dk_at dksX8_write_0 13 rfl rfl)
theorem dX8_write_14 : decode cX8_write 14 = .ok (.iload_n 3, 1) := dk_29 (dk_at dksX8_write_0 14 rfl rfl)
theorem dX8_write_15 : decode cX8_write 15 = .ok (.bipush 64, 2) := dk_16 64 (dk_at dksX8_write_0 15 rfl rfl)
theorem dX8_write_17 : decode cX8_write 17 = .ok (.if_icmp .ge 82, 3) := dk_162 0 82 (dk_at dksX8_write_0 17 rfl rfl)
theorem dX8_write_20 : decode cX8_write 20 = .ok (.aload_n 1, 1) := dk_43 (dk_at dksX8_write_0 20 rfl rfl)
theorem dX8_write_21 : decode cX8_write 21 = .ok (.aload_n 2, 1) := dk_44 (dk_at dksX8_write_0 21 rfl rfl)
theorem dX8_write_22 : decode cX8_write 22 = .ok (.iload_n 3, 1) := dk_29 (dk_at dksX8_write_0 22 rfl rfl)
theorem dX8_write_23 : decode cX8_write 23 = .ok (.invokestatic 43, 3) := dk_184 0 43 (dk_at dksX8_write_1 0 rfl rfl)
theorem dX8_write_26 : decode cX8_write 26 = .ok (.istore 4, 2) := dk_54 4 (dk_at dksX8_write_1 3 rfl rfl)
theorem dX8_write_28 : decode cX8_write 28 = .ok (.iload 4, 2) := dk_21 4 (dk_at dksX8_write_1 5 rfl rfl)
theorem dX8_write_30 : decode cX8_write 30 = .ok (.ifCond .le 17, 3) := dk_158 0 17 (dk_at dksX8_write_1 7 rfl rfl)
theorem dX8_write_33 : decode cX8_write 33 = .ok (.aload_n 0, 1) := dk_42 (dk_at dksX8_write_1 10 rfl rfl)
theorem dX8_write_34 : decode cX8_write 34 = .ok (.iconst 0, 1) := dk_3 (dk_at dksX8_write_1 11 rfl rfl)
theorem dX8_write_35 : decode cX8_write 35 = .ok (.invokevirtual 36, 3) := dk_182 0 36 (dk_at dksX8_write_1 12 rfl rfl)
theorem dX8_write_38 : decode cX8_write 38 = .ok (.aload_n 0, 1) := dk_42 (dk_at dksX8_write_1 15 rfl rfl)
theorem dX8_write_39 : decode cX8_write 39 = .ok (.iload 4, 2) := dk_21 4 (dk_at dksX8_write_1 16 rfl rfl)
theorem dX8_write_41 : decode cX8_write 41 = .ok (.invokevirtual 47, 3) := dk_182 0 47 (dk_at dksX8_write_1 18 rfl rfl)
theorem dX8_write_44 : decode cX8_write 44 = .ok (.goto 43, 3) := dk_167 0 43 (dk_at dksX8_write_1 21 rfl rfl)
theorem dX8_write_47 : decode cX8_write 47 = .ok (.aload_n 0, 1) := dk_42 (dk_at dksX8_write_2 0 rfl rfl)
theorem dX8_write_48 : decode cX8_write 48 = .ok (.iconst 1, 1) := dk_4 (dk_at dksX8_write_2 1 rfl rfl)
theorem dX8_write_49 : decode cX8_write 49 = .ok (.invokevirtual 36, 3) := dk_182 0 36 (dk_at dksX8_write_2 2 rfl rfl)
theorem dX8_write_52 : decode cX8_write 52 = .ok (.aload_n 0, 1) := dk_42 (dk_at dksX8_write_2 5 rfl rfl)
theorem dX8_write_53 : decode cX8_write 53 = .ok (.aload_n 1, 1) := dk_43 (dk_at dksX8_write_2 6 rfl rfl)
theorem dX8_write_54 : decode cX8_write 54 = .ok (.aload_n 2, 1) := dk_44 (dk_at dksX8_write_2 7 rfl rfl)
theorem dX8_write_55 : decode cX8_write 55 = .ok (.getfield 51, 3) := dk_180 0 51 (dk_at dksX8_write_2 8 rfl rfl)
theorem dX8_write_58 : decode cX8_write 58 = .ok (.iload_n 3, 1) := dk_29 (dk_at dksX8_write_2 11 rfl rfl)
theorem dX8_write_59 : decode cX8_write 59 = .ok (.iaload, 1) := dk_46 (dk_at dksX8_write_2 12 rfl rfl)
theorem dX8_write_60 : decode cX8_write 60 = .ok (.iaload, 1) := dk_46 (dk_at dksX8_write_2 13 rfl rfl)
theorem dX8_write_61 : decode cX8_write 61 = .ok (.ifCond .ge 7, 3) := dk_156 0 7 (dk_at dksX8_write_2 14 rfl rfl)
theorem dX8_write_64 : decode cX8_write 64 = .ok (.iconst 1, 1) := dk_4 (dk_at dksX8_write_2 17 rfl rfl)
theorem dX8_write_65 : decode cX8_write 65 = .ok (.goto 4, 3) := dk_167 0 4 (dk_at dksX8_write_2 18 rfl rfl)
theorem dX8_write_68 : decode cX8_write 68 = .ok (.iconst 0, 1) := dk_3 (dk_at dksX8_write_2 21 rfl rfl)
theorem dX8_write_69 : decode cX8_write 69 = .ok (.invokevirtual 36, 3) := dk_182 0 36 (dk_at dksX8_write_3 0 rfl rfl)
theorem dX8_write_72 : decode cX8_write 72 = .ok (.aload_n 0, 1) := dk_42 (dk_at dksX8_write_3 3 rfl rfl)
theorem dX8_write_73 : decode cX8_write 73 = .ok (.aload_n 1, 1) := dk_43 (dk_at dksX8_write_3 4 rfl rfl)
theorem dX8_write_74 : decode cX8_write 74 = .ok (.aload_n 2, 1) := dk_44 (dk_at dksX8_write_3 5 rfl rfl)
theorem dX8_write_75 : decode cX8_write 75 = .ok (.getfield 51, 3) := dk_180 0 51 (dk_at dksX8_write_3 6 rfl rfl)
theorem dX8_write_78 : decode cX8_write 78 = .ok (.iload_n 3, 1) := dk_29 (dk_at dksX8_write_3 9 rfl rfl)
theorem dX8_write_79 : decode cX8_write 79 = .ok (.iaload, 1) := dk_46 (dk_at dksX8_write_3 10 rfl rfl)
theorem dX8_write_80 : decode cX8_write 80 = .ok (.iaload, 1) := dk_46 (dk_at dksX8_write_3 11 rfl rfl)
theorem dX8_write_81 : decode cX8_write 81 = .ok (.invokestatic 56, 3) := dk_184 0 56 (dk_at dksX8_write_3 12 rfl rfl)
theorem dX8_write_84 : decode cX8_write 84 = .ok (.invokevirtual 47, 3) := dk_182 0 47 (dk_at dksX8_write_3 15 rfl rfl)
theorem dX8_write_87 : decode cX8_write 87 = .ok (.iload_n 3, 1) := dk_29 (dk_at dksX8_write_3 18 rfl rfl)
theorem dX8_write_88 : decode cX8_write 88 = .ok (.iconst 1, 1) := dk_4 (dk_at dksX8_write_3 19 rfl rfl)
theorem dX8_write_89 : decode cX8_write 89 = .ok (.iload 4, 2) := dk_21 4 (dk_at dksX8_write_3 20 rfl rfl)
theorem dX8_write_91 : decode cX8_write 91 = .ok (.invokestatic 61, 3) := dk_184 0 61 (dk_at dksX8_write_4 0 rfl rfl)
theorem dX8_write_94 : decode cX8_write 94 = .ok (.iadd, 1) := dk_96 (dk_at dksX8_write_4 3 rfl rfl)
theorem dX8_write_95 : decode cX8_write 95 = .ok (.istore_n 3, 1) := dk_62 (dk_at dksX8_write_4 4 rfl rfl)
theorem dX8_write_96 : decode cX8_write 96 = .ok (.goto (-82), 3) := dk_167 255 174 (dk_at dksX8_write_4 5 rfl rfl)
theorem dX8_write_99 : decode cX8_write 99 = .ok (.aload_n 0, 1) := dk_42 (dk_at dksX8_write_4 8 rfl rfl)
theorem dX8_write_100 : decode cX8_write 100 = .ok (.areturn, 1) := dk_176 (dk_at dksX8_write_4 9 rfl rfl)
abbrev cX8_runFrom : ByteArray := prog_4_method_5_code
def yX8_runFrom : MethodName := ⟨RX8, "runFrom", "([ILCrumbPictures$Order;I)I"⟩
def dkwX8_runFrom_1 : List UInt8 := [167, 255, 236, 29, 28, 100, 172]
abbrev dktX8_runFrom_1 : List UInt8 := dkwX8_runFrom_1 ++ []
def dkwX8_runFrom_0 : List UInt8 := [28, 62, 29, 16, 64, 162, 0, 20, 42, 43, 180, 0, 51, 29, 46, 46, 154, 0, 9, 132, 3, 1]
abbrev dktX8_runFrom_0 : List UInt8 := dkwX8_runFrom_0 ++ dktX8_runFrom_1
theorem dksX8_runFrom_0 : cX8_runFrom.data.toList.drop 0 = dktX8_runFrom_0 := by decide +kernel
theorem dksX8_runFrom_1 : cX8_runFrom.data.toList.drop 22 = dktX8_runFrom_1 := dk_seg dksX8_runFrom_0 22 rfl rfl
theorem dX8_runFrom_0 : decode cX8_runFrom 0 = .ok (.iload_n 2, 1) := dk_28 (dk_at dksX8_runFrom_0 0 rfl rfl)
theorem dX8_runFrom_1 : decode cX8_runFrom 1 = .ok (.istore_n 3, 1) := dk_62 (dk_at dksX8_runFrom_0 1 rfl rfl)
theorem dX8_runFrom_2 : decode cX8_runFrom 2 = .ok (.iload_n 3, 1) := dk_29 (dk_at dksX8_runFrom_0 2 rfl rfl)
theorem dX8_runFrom_3 : decode cX8_runFrom 3 = .ok (.bipush 64, 2) := dk_16 64 (dk_at dksX8_runFrom_0 3 rfl rfl)
theorem dX8_runFrom_5 : decode cX8_runFrom 5 = .ok (.if_icmp .ge 20, 3) := dk_162 0 20 (dk_at dksX8_runFrom_0 5 rfl rfl)
theorem dX8_runFrom_8 : decode cX8_runFrom 8 = .ok (.aload_n 0, 1) := dk_42 (dk_at dksX8_runFrom_0 8 rfl rfl)
theorem dX8_runFrom_9 : decode cX8_runFrom 9 = .ok (.aload_n 1, 1) := dk_43 (dk_at dksX8_runFrom_0 9 rfl rfl)
theorem dX8_runFrom_10 : decode cX8_runFrom 10 = .ok (.getfield 51, 3) := dk_180 0 51 (dk_at dksX8_runFrom_0 10 rfl rfl)
theorem dX8_runFrom_13 : decode cX8_runFrom 13 = .ok (.iload_n 3, 1) := dk_29 (dk_at dksX8_runFrom_0 13 rfl rfl)
theorem dX8_runFrom_14 : decode cX8_runFrom 14 = .ok (.iaload, 1) := dk_46 (dk_at dksX8_runFrom_0 14 rfl rfl)
theorem dX8_runFrom_15 : decode cX8_runFrom 15 = .ok (.iaload, 1) := dk_46 (dk_at dksX8_runFrom_0 15 rfl rfl)
theorem dX8_runFrom_16 : decode cX8_runFrom 16 = .ok (.ifCond .ne 9, 3) := dk_154 0 9 (dk_at dksX8_runFrom_0 16 rfl rfl)
theorem dX8_runFrom_19 : decode cX8_runFrom 19 = .ok (.iinc 3 1, 3) := dk_132 3 1 (dk_at dksX8_runFrom_0 19 rfl rfl)
theorem dX8_runFrom_22 : decode cX8_runFrom 22 = .ok (.goto (-20), 3) := dk_167 255 236 (dk_at dksX8_runFrom_1 0 rfl rfl)
theorem dX8_runFrom_25 : decode cX8_runFrom 25 = .ok (.iload_n 3, 1) := dk_29 (dk_at dksX8_runFrom_1 3 rfl rfl)
theorem dX8_runFrom_26 : decode cX8_runFrom 26 = .ok (.iload_n 2, 1) := dk_28 (dk_at dksX8_runFrom_1 4 rfl rfl)
theorem dX8_runFrom_27 : decode cX8_runFrom 27 = .ok (.isub, 1) := dk_100 (dk_at dksX8_runFrom_1 5 rfl rfl)
theorem dX8_runFrom_28 : decode cX8_runFrom 28 = .ok (.ireturn, 1) := dk_172 (dk_at dksX8_runFrom_1 6 rfl rfl)
abbrev cX8_bit : ByteArray := prog_4_method_2_code
def yX8_bit : MethodName := ⟨RX8, "bit", "(Z)V"⟩
def dkwX8_bit_0 : List UInt8 := [42, 180, 0, 12, 42, 180, 0, 22, 27, 182, 0, 26, 42, 89, 180, 0, 22, 4, 96, 181, 0, 22, 177]
abbrev dktX8_bit_0 : List UInt8 := dkwX8_bit_0 ++ []
theorem dksX8_bit_0 : cX8_bit.data.toList.drop 0 = dktX8_bit_0 := by decide +kernel
theorem dX8_bit_0 : decode cX8_bit 0 = .ok (.aload_n 0, 1) := dk_42 (dk_at dksX8_bit_0 0 rfl rfl)
theorem dX8_bit_1 : decode cX8_bit 1 = .ok (.getfield 12, 3) := dk_180 0 12 (dk_at dksX8_bit_0 1 rfl rfl)
theorem dX8_bit_4 : decode cX8_bit 4 = .ok (.aload_n 0, 1) := dk_42 (dk_at dksX8_bit_0 4 rfl rfl)
theorem dX8_bit_5 : decode cX8_bit 5 = .ok (.getfield 22, 3) := dk_180 0 22 (dk_at dksX8_bit_0 5 rfl rfl)
theorem dX8_bit_8 : decode cX8_bit 8 = .ok (.iload_n 1, 1) := dk_27 (dk_at dksX8_bit_0 8 rfl rfl)
theorem dX8_bit_9 : decode cX8_bit 9 = .ok (.invokevirtual 26, 3) := dk_182 0 26 (dk_at dksX8_bit_0 9 rfl rfl)
theorem dX8_bit_12 : decode cX8_bit 12 = .ok (.aload_n 0, 1) := dk_42 (dk_at dksX8_bit_0 12 rfl rfl)
theorem dX8_bit_13 : decode cX8_bit 13 = .ok (.dup, 1) := dk_89 (dk_at dksX8_bit_0 13 rfl rfl)
theorem dX8_bit_14 : decode cX8_bit 14 = .ok (.getfield 22, 3) := dk_180 0 22 (dk_at dksX8_bit_0 14 rfl rfl)
theorem dX8_bit_17 : decode cX8_bit 17 = .ok (.iconst 1, 1) := dk_4 (dk_at dksX8_bit_0 17 rfl rfl)
theorem dX8_bit_18 : decode cX8_bit 18 = .ok (.iadd, 1) := dk_96 (dk_at dksX8_bit_0 18 rfl rfl)
theorem dX8_bit_19 : decode cX8_bit 19 = .ok (.putfield 22, 3) := dk_181 0 22 (dk_at dksX8_bit_0 19 rfl rfl)
theorem dX8_bit_22 : decode cX8_bit 22 = .ok (.return_, 1) := dk_177 (dk_at dksX8_bit_0 22 rfl rfl)
abbrev cX8_number : ByteArray := prog_4_method_3_code
def yX8_number : MethodName := ⟨RX8, "number", "(I)V"⟩
def dkwX8_number_2 : List UInt8 := [182, 0, 36, 132, 3, 255, 167, 255, 231, 177]
abbrev dktX8_number_2 : List UInt8 := dkwX8_number_2 ++ []
def dkwX8_number_1 : List UInt8 := [167, 255, 243, 28, 62, 29, 155, 0, 27, 42, 27, 29, 122, 4, 126, 4, 160, 0, 7, 4, 167, 0, 4, 3]
abbrev dktX8_number_1 : List UInt8 := dkwX8_number_1 ++ dktX8_number_2
def dkwX8_number_0 : List UInt8 := [16, 31, 27, 184, 0, 30, 100, 61, 3, 62, 29, 28, 162, 0, 14, 42, 3, 182, 0, 36, 132, 3, 1]
abbrev dktX8_number_0 : List UInt8 := dkwX8_number_0 ++ dktX8_number_1
theorem dksX8_number_0 : cX8_number.data.toList.drop 0 = dktX8_number_0 := by decide +kernel
theorem dksX8_number_1 : cX8_number.data.toList.drop 23 = dktX8_number_1 := dk_seg dksX8_number_0 23 rfl rfl
theorem dksX8_number_2 : cX8_number.data.toList.drop 47 = dktX8_number_2 := dk_seg dksX8_number_1 24 rfl rfl
theorem dX8_number_0 : decode cX8_number 0 = .ok (.bipush 31, 2) := dk_16 31 (dk_at dksX8_number_0 0 rfl rfl)
theorem dX8_number_2 : decode cX8_number 2 = .ok (.iload_n 1, 1) := dk_27 (dk_at dksX8_number_0 2 rfl rfl)
theorem dX8_number_3 : decode cX8_number 3 = .ok (.invokestatic 30, 3) := dk_184 0 30 (dk_at dksX8_number_0 3 rfl rfl)
theorem dX8_number_6 : decode cX8_number 6 = .ok (.isub, 1) := dk_100 (dk_at dksX8_number_0 6 rfl rfl)
theorem dX8_number_7 : decode cX8_number 7 = .ok (.istore_n 2, 1) := dk_61 (dk_at dksX8_number_0 7 rfl rfl)
theorem dX8_number_8 : decode cX8_number 8 = .ok (.iconst 0, 1) := dk_3 (dk_at dksX8_number_0 8 rfl rfl)
theorem dX8_number_9 : decode cX8_number 9 = .ok (.istore_n 3, 1) := dk_62 (dk_at dksX8_number_0 9 rfl rfl)
theorem dX8_number_10 : decode cX8_number 10 = .ok (.iload_n 3, 1) := dk_29 (dk_at dksX8_number_0 10 rfl rfl)
theorem dX8_number_11 : decode cX8_number 11 = .ok (.iload_n 2, 1) := dk_28 (dk_at dksX8_number_0 11 rfl rfl)
theorem dX8_number_12 : decode cX8_number 12 = .ok (.if_icmp .ge 14, 3) := dk_162 0 14 (dk_at dksX8_number_0 12 rfl rfl)
theorem dX8_number_15 : decode cX8_number 15 = .ok (.aload_n 0, 1) := dk_42 (dk_at dksX8_number_0 15 rfl rfl)
theorem dX8_number_16 : decode cX8_number 16 = .ok (.iconst 0, 1) := dk_3 (dk_at dksX8_number_0 16 rfl rfl)
theorem dX8_number_17 : decode cX8_number 17 = .ok (.invokevirtual 36, 3) := dk_182 0 36 (dk_at dksX8_number_0 17 rfl rfl)
theorem dX8_number_20 : decode cX8_number 20 = .ok (.iinc 3 1, 3) := dk_132 3 1 (dk_at dksX8_number_0 20 rfl rfl)
theorem dX8_number_23 : decode cX8_number 23 = .ok (.goto (-13), 3) := dk_167 255 243 (dk_at dksX8_number_1 0 rfl rfl)
theorem dX8_number_26 : decode cX8_number 26 = .ok (.iload_n 2, 1) := dk_28 (dk_at dksX8_number_1 3 rfl rfl)
theorem dX8_number_27 : decode cX8_number 27 = .ok (.istore_n 3, 1) := dk_62 (dk_at dksX8_number_1 4 rfl rfl)
theorem dX8_number_28 : decode cX8_number 28 = .ok (.iload_n 3, 1) := dk_29 (dk_at dksX8_number_1 5 rfl rfl)
theorem dX8_number_29 : decode cX8_number 29 = .ok (.ifCond .lt 27, 3) := dk_155 0 27 (dk_at dksX8_number_1 6 rfl rfl)
theorem dX8_number_32 : decode cX8_number 32 = .ok (.aload_n 0, 1) := dk_42 (dk_at dksX8_number_1 9 rfl rfl)
theorem dX8_number_33 : decode cX8_number 33 = .ok (.iload_n 1, 1) := dk_27 (dk_at dksX8_number_1 10 rfl rfl)
theorem dX8_number_34 : decode cX8_number 34 = .ok (.iload_n 3, 1) := dk_29 (dk_at dksX8_number_1 11 rfl rfl)
theorem dX8_number_35 : decode cX8_number 35 = .ok (.ishr, 1) := dk_122 (dk_at dksX8_number_1 12 rfl rfl)
theorem dX8_number_36 : decode cX8_number 36 = .ok (.iconst 1, 1) := dk_4 (dk_at dksX8_number_1 13 rfl rfl)
theorem dX8_number_37 : decode cX8_number 37 = .ok (.iand, 1) := dk_126 (dk_at dksX8_number_1 14 rfl rfl)
theorem dX8_number_38 : decode cX8_number 38 = .ok (.iconst 1, 1) := dk_4 (dk_at dksX8_number_1 15 rfl rfl)
theorem dX8_number_39 : decode cX8_number 39 = .ok (.if_icmp .ne 7, 3) := dk_160 0 7 (dk_at dksX8_number_1 16 rfl rfl)
theorem dX8_number_42 : decode cX8_number 42 = .ok (.iconst 1, 1) := dk_4 (dk_at dksX8_number_1 19 rfl rfl)
theorem dX8_number_43 : decode cX8_number 43 = .ok (.goto 4, 3) := dk_167 0 4 (dk_at dksX8_number_1 20 rfl rfl)
theorem dX8_number_46 : decode cX8_number 46 = .ok (.iconst 0, 1) := dk_3 (dk_at dksX8_number_1 23 rfl rfl)
theorem dX8_number_47 : decode cX8_number 47 = .ok (.invokevirtual 36, 3) := dk_182 0 36 (dk_at dksX8_number_2 0 rfl rfl)
theorem dX8_number_50 : decode cX8_number 50 = .ok (.iinc 3 (-1), 3) := dk_132 3 255 (dk_at dksX8_number_2 3 rfl rfl)
theorem dX8_number_53 : decode cX8_number 53 = .ok (.goto (-25), 3) := dk_167 255 231 (dk_at dksX8_number_2 6 rfl rfl)
theorem dX8_number_56 : decode cX8_number 56 = .ok (.return_, 1) := dk_177 (dk_at dksX8_number_2 9 rfl rfl)
abbrev cX8_read : ByteArray := prog_4_method_8_code
def yX8_read : MethodName := ⟨RX8, "read", "()[I"⟩
def dkwX8_read_3 : List UInt8 := [42, 180, 0, 18, 176]
abbrev dktX8_read_3 : List UInt8 := dkwX8_read_3 ++ []
def dkwX8_read_2 : List UInt8 := [167, 0, 4, 29, 79, 132, 1, 1, 167, 255, 209, 42, 27, 42, 182, 0, 76, 182, 0, 80, 60, 167, 255, 196]
abbrev dktX8_read_2 : List UInt8 := dkwX8_read_2 ++ dktX8_read_3
def dkwX8_read_1 : List UInt8 := [153, 0, 35, 42, 182, 0, 72, 61, 42, 182, 0, 76, 62, 42, 180, 0, 18, 27, 28, 153, 0, 8, 29, 116]
abbrev dktX8_read_1 : List UInt8 := dkwX8_read_1 ++ dktX8_read_2
def dkwX8_read_0 : List UInt8 := [42, 3, 181, 0, 65, 3, 60, 42, 180, 0, 65, 42, 180, 0, 22, 162, 0, 55, 42, 182, 0, 72]
abbrev dktX8_read_0 : List UInt8 := dkwX8_read_0 ++ dktX8_read_1
theorem dksX8_read_0 : cX8_read.data.toList.drop 0 = dktX8_read_0 := by decide +kernel
theorem dksX8_read_1 : cX8_read.data.toList.drop 22 = dktX8_read_1 := dk_seg dksX8_read_0 22 rfl rfl
theorem dksX8_read_2 : cX8_read.data.toList.drop 46 = dktX8_read_2 := dk_seg dksX8_read_1 24 rfl rfl
theorem dksX8_read_3 : cX8_read.data.toList.drop 70 = dktX8_read_3 := dk_seg dksX8_read_2 24 rfl rfl
theorem dX8_read_0 : decode cX8_read 0 = .ok (.aload_n 0, 1) := dk_42 (dk_at dksX8_read_0 0 rfl rfl)
theorem dX8_read_1 : decode cX8_read 1 = .ok (.iconst 0, 1) := dk_3 (dk_at dksX8_read_0 1 rfl rfl)
theorem dX8_read_2 : decode cX8_read 2 = .ok (.putfield 65, 3) := dk_181 0 65 (dk_at dksX8_read_0 2 rfl rfl)
theorem dX8_read_5 : decode cX8_read 5 = .ok (.iconst 0, 1) := dk_3 (dk_at dksX8_read_0 5 rfl rfl)
theorem dX8_read_6 : decode cX8_read 6 = .ok (.istore_n 1, 1) := dk_60 (dk_at dksX8_read_0 6 rfl rfl)
theorem dX8_read_7 : decode cX8_read 7 = .ok (.aload_n 0, 1) := dk_42 (dk_at dksX8_read_0 7 rfl rfl)
theorem dX8_read_8 : decode cX8_read 8 = .ok (.getfield 65, 3) := dk_180 0 65 (dk_at dksX8_read_0 8 rfl rfl)
theorem dX8_read_11 : decode cX8_read 11 = .ok (.aload_n 0, 1) := dk_42 (dk_at dksX8_read_0 11 rfl rfl)
theorem dX8_read_12 : decode cX8_read 12 = .ok (.getfield 22, 3) := dk_180 0 22 (dk_at dksX8_read_0 12 rfl rfl)
theorem dX8_read_15 : decode cX8_read 15 = .ok (.if_icmp .ge 55, 3) := dk_162 0 55 (dk_at dksX8_read_0 15 rfl rfl)
theorem dX8_read_18 : decode cX8_read 18 = .ok (.aload_n 0, 1) := dk_42 (dk_at dksX8_read_0 18 rfl rfl)
theorem dX8_read_19 : decode cX8_read 19 = .ok (.invokevirtual 72, 3) := dk_182 0 72 (dk_at dksX8_read_0 19 rfl rfl)
theorem dX8_read_22 : decode cX8_read 22 = .ok (.ifCond .eq 35, 3) := dk_153 0 35 (dk_at dksX8_read_1 0 rfl rfl)
theorem dX8_read_25 : decode cX8_read 25 = .ok (.aload_n 0, 1) := dk_42 (dk_at dksX8_read_1 3 rfl rfl)
theorem dX8_read_26 : decode cX8_read 26 = .ok (.invokevirtual 72, 3) := dk_182 0 72 (dk_at dksX8_read_1 4 rfl rfl)
theorem dX8_read_29 : decode cX8_read 29 = .ok (.istore_n 2, 1) := dk_61 (dk_at dksX8_read_1 7 rfl rfl)
theorem dX8_read_30 : decode cX8_read 30 = .ok (.aload_n 0, 1) := dk_42 (dk_at dksX8_read_1 8 rfl rfl)
theorem dX8_read_31 : decode cX8_read 31 = .ok (.invokevirtual 76, 3) := dk_182 0 76 (dk_at dksX8_read_1 9 rfl rfl)
theorem dX8_read_34 : decode cX8_read 34 = .ok (.istore_n 3, 1) := dk_62 (dk_at dksX8_read_1 12 rfl rfl)
theorem dX8_read_35 : decode cX8_read 35 = .ok (.aload_n 0, 1) := dk_42 (dk_at dksX8_read_1 13 rfl rfl)
theorem dX8_read_36 : decode cX8_read 36 = .ok (.getfield 18, 3) := dk_180 0 18 (dk_at dksX8_read_1 14 rfl rfl)
theorem dX8_read_39 : decode cX8_read 39 = .ok (.iload_n 1, 1) := dk_27 (dk_at dksX8_read_1 17 rfl rfl)
theorem dX8_read_40 : decode cX8_read 40 = .ok (.iload_n 2, 1) := dk_28 (dk_at dksX8_read_1 18 rfl rfl)
theorem dX8_read_41 : decode cX8_read 41 = .ok (.ifCond .eq 8, 3) := dk_153 0 8 (dk_at dksX8_read_1 19 rfl rfl)
theorem dX8_read_44 : decode cX8_read 44 = .ok (.iload_n 3, 1) := dk_29 (dk_at dksX8_read_1 22 rfl rfl)
theorem dX8_read_45 : decode cX8_read 45 = .ok (.ineg, 1) := dk_116 (dk_at dksX8_read_1 23 rfl rfl)
theorem dX8_read_46 : decode cX8_read 46 = .ok (.goto 4, 3) := dk_167 0 4 (dk_at dksX8_read_2 0 rfl rfl)
theorem dX8_read_49 : decode cX8_read 49 = .ok (.iload_n 3, 1) := dk_29 (dk_at dksX8_read_2 3 rfl rfl)
theorem dX8_read_50 : decode cX8_read 50 = .ok (.iastore, 1) := dk_79 (dk_at dksX8_read_2 4 rfl rfl)
theorem dX8_read_51 : decode cX8_read 51 = .ok (.iinc 1 1, 3) := dk_132 1 1 (dk_at dksX8_read_2 5 rfl rfl)
theorem dX8_read_54 : decode cX8_read 54 = .ok (.goto (-47), 3) := dk_167 255 209 (dk_at dksX8_read_2 8 rfl rfl)
theorem dX8_read_57 : decode cX8_read 57 = .ok (.aload_n 0, 1) := dk_42 (dk_at dksX8_read_2 11 rfl rfl)
theorem dX8_read_58 : decode cX8_read 58 = .ok (.iload_n 1, 1) := dk_27 (dk_at dksX8_read_2 12 rfl rfl)
theorem dX8_read_59 : decode cX8_read 59 = .ok (.aload_n 0, 1) := dk_42 (dk_at dksX8_read_2 13 rfl rfl)
theorem dX8_read_60 : decode cX8_read 60 = .ok (.invokevirtual 76, 3) := dk_182 0 76 (dk_at dksX8_read_2 14 rfl rfl)
theorem dX8_read_63 : decode cX8_read 63 = .ok (.invokevirtual 80, 3) := dk_182 0 80 (dk_at dksX8_read_2 17 rfl rfl)
theorem dX8_read_66 : decode cX8_read 66 = .ok (.istore_n 1, 1) := dk_60 (dk_at dksX8_read_2 20 rfl rfl)
theorem dX8_read_67 : decode cX8_read 67 = .ok (.goto (-60), 3) := dk_167 255 196 (dk_at dksX8_read_2 21 rfl rfl)
theorem dX8_read_70 : decode cX8_read 70 = .ok (.aload_n 0, 1) := dk_42 (dk_at dksX8_read_3 0 rfl rfl)
theorem dX8_read_71 : decode cX8_read 71 = .ok (.getfield 18, 3) := dk_180 0 18 (dk_at dksX8_read_3 1 rfl rfl)
theorem dX8_read_74 : decode cX8_read 74 = .ok (.areturn, 1) := dk_176 (dk_at dksX8_read_3 4 rfl rfl)
abbrev cX8_next : ByteArray := prog_4_method_6_code
def yX8_next : MethodName := ⟨RX8, "next", "()Z"⟩
def dkwX8_next_0 : List UInt8 := [42, 89, 180, 0, 65, 4, 96, 181, 0, 65, 42, 180, 0, 12, 42, 180, 0, 65, 4, 100, 182, 0, 68, 172]
abbrev dktX8_next_0 : List UInt8 := dkwX8_next_0 ++ []
theorem dksX8_next_0 : cX8_next.data.toList.drop 0 = dktX8_next_0 := by decide +kernel
theorem dX8_next_0 : decode cX8_next 0 = .ok (.aload_n 0, 1) := dk_42 (dk_at dksX8_next_0 0 rfl rfl)
theorem dX8_next_1 : decode cX8_next 1 = .ok (.dup, 1) := dk_89 (dk_at dksX8_next_0 1 rfl rfl)
theorem dX8_next_2 : decode cX8_next 2 = .ok (.getfield 65, 3) := dk_180 0 65 (dk_at dksX8_next_0 2 rfl rfl)
theorem dX8_next_5 : decode cX8_next 5 = .ok (.iconst 1, 1) := dk_4 (dk_at dksX8_next_0 5 rfl rfl)
theorem dX8_next_6 : decode cX8_next 6 = .ok (.iadd, 1) := dk_96 (dk_at dksX8_next_0 6 rfl rfl)
theorem dX8_next_7 : decode cX8_next 7 = .ok (.putfield 65, 3) := dk_181 0 65 (dk_at dksX8_next_0 7 rfl rfl)
theorem dX8_next_10 : decode cX8_next 10 = .ok (.aload_n 0, 1) := dk_42 (dk_at dksX8_next_0 10 rfl rfl)
theorem dX8_next_11 : decode cX8_next 11 = .ok (.getfield 12, 3) := dk_180 0 12 (dk_at dksX8_next_0 11 rfl rfl)
theorem dX8_next_14 : decode cX8_next 14 = .ok (.aload_n 0, 1) := dk_42 (dk_at dksX8_next_0 14 rfl rfl)
theorem dX8_next_15 : decode cX8_next 15 = .ok (.getfield 65, 3) := dk_180 0 65 (dk_at dksX8_next_0 15 rfl rfl)
theorem dX8_next_18 : decode cX8_next 18 = .ok (.iconst 1, 1) := dk_4 (dk_at dksX8_next_0 18 rfl rfl)
theorem dX8_next_19 : decode cX8_next 19 = .ok (.isub, 1) := dk_100 (dk_at dksX8_next_0 19 rfl rfl)
theorem dX8_next_20 : decode cX8_next 20 = .ok (.invokevirtual 68, 3) := dk_182 0 68 (dk_at dksX8_next_0 20 rfl rfl)
theorem dX8_next_23 : decode cX8_next 23 = .ok (.ireturn, 1) := dk_172 (dk_at dksX8_next_0 23 rfl rfl)
abbrev cX8_readNumber : ByteArray := prog_4_method_7_code
def yX8_readNumber : MethodName := ⟨RX8, "readNumber", "()I"⟩
def dkwX8_readNumber_2 : List UInt8 := [172]
abbrev dktX8_readNumber_2 : List UInt8 := dkwX8_readNumber_2 ++ []
def dkwX8_readNumber_1 : List UInt8 := [5, 28, 104, 42, 182, 0, 72, 153, 0, 7, 4, 167, 0, 4, 3, 96, 61, 132, 3, 1, 167, 255, 231, 28]
abbrev dktX8_readNumber_1 : List UInt8 := dkwX8_readNumber_1 ++ dktX8_readNumber_2
def dkwX8_readNumber_0 : List UInt8 := [3, 60, 42, 182, 0, 72, 154, 0, 9, 132, 1, 1, 167, 255, 246, 4, 61, 3, 62, 29, 27, 162, 0, 26]
abbrev dktX8_readNumber_0 : List UInt8 := dkwX8_readNumber_0 ++ dktX8_readNumber_1
theorem dksX8_readNumber_0 : cX8_readNumber.data.toList.drop 0 = dktX8_readNumber_0 := by decide +kernel
theorem dksX8_readNumber_1 : cX8_readNumber.data.toList.drop 24 = dktX8_readNumber_1 := dk_seg dksX8_readNumber_0 24 rfl rfl
theorem dksX8_readNumber_2 : cX8_readNumber.data.toList.drop 48 = dktX8_readNumber_2 := dk_seg dksX8_readNumber_1 24 rfl rfl
theorem dX8_readNumber_0 : decode cX8_readNumber 0 = .ok (.iconst 0, 1) := dk_3 (dk_at dksX8_readNumber_0 0 rfl rfl)
theorem dX8_readNumber_1 : decode cX8_readNumber 1 = .ok (.istore_n 1, 1) := dk_60 (dk_at dksX8_readNumber_0 1 rfl rfl)
theorem dX8_readNumber_2 : decode cX8_readNumber 2 = .ok (.aload_n 0, 1) := dk_42 (dk_at dksX8_readNumber_0 2 rfl rfl)
theorem dX8_readNumber_3 : decode cX8_readNumber 3 = .ok (.invokevirtual 72, 3) := dk_182 0 72 (dk_at dksX8_readNumber_0 3 rfl rfl)
theorem dX8_readNumber_6 : decode cX8_readNumber 6 = .ok (.ifCond .ne 9, 3) := dk_154 0 9 (dk_at dksX8_readNumber_0 6 rfl rfl)
theorem dX8_readNumber_9 : decode cX8_readNumber 9 = .ok (.iinc 1 1, 3) := dk_132 1 1 (dk_at dksX8_readNumber_0 9 rfl rfl)
theorem dX8_readNumber_12 : decode cX8_readNumber 12 = .ok (.goto (-10), 3) := dk_167 255 246 (dk_at dksX8_readNumber_0 12 rfl rfl)
theorem dX8_readNumber_15 : decode cX8_readNumber 15 = .ok (.iconst 1, 1) := dk_4 (dk_at dksX8_readNumber_0 15 rfl rfl)
theorem dX8_readNumber_16 : decode cX8_readNumber 16 = .ok (.istore_n 2, 1) := dk_61 (dk_at dksX8_readNumber_0 16 rfl rfl)
theorem dX8_readNumber_17 : decode cX8_readNumber 17 = .ok (.iconst 0, 1) := dk_3 (dk_at dksX8_readNumber_0 17 rfl rfl)
theorem dX8_readNumber_18 : decode cX8_readNumber 18 = .ok (.istore_n 3, 1) := dk_62 (dk_at dksX8_readNumber_0 18 rfl rfl)
theorem dX8_readNumber_19 : decode cX8_readNumber 19 = .ok (.iload_n 3, 1) := dk_29 (dk_at dksX8_readNumber_0 19 rfl rfl)
theorem dX8_readNumber_20 : decode cX8_readNumber 20 = .ok (.iload_n 1, 1) := dk_27 (dk_at dksX8_readNumber_0 20 rfl rfl)
theorem dX8_readNumber_21 : decode cX8_readNumber 21 = .ok (.if_icmp .ge 26, 3) := dk_162 0 26 (dk_at dksX8_readNumber_0 21 rfl rfl)
theorem dX8_readNumber_24 : decode cX8_readNumber 24 = .ok (.iconst 2, 1) := dk_5 (dk_at dksX8_readNumber_1 0 rfl rfl)
theorem dX8_readNumber_25 : decode cX8_readNumber 25 = .ok (.iload_n 2, 1) := dk_28 (dk_at dksX8_readNumber_1 1 rfl rfl)
theorem dX8_readNumber_26 : decode cX8_readNumber 26 = .ok (.imul, 1) := dk_104 (dk_at dksX8_readNumber_1 2 rfl rfl)
theorem dX8_readNumber_27 : decode cX8_readNumber 27 = .ok (.aload_n 0, 1) := dk_42 (dk_at dksX8_readNumber_1 3 rfl rfl)
theorem dX8_readNumber_28 : decode cX8_readNumber 28 = .ok (.invokevirtual 72, 3) := dk_182 0 72 (dk_at dksX8_readNumber_1 4 rfl rfl)
theorem dX8_readNumber_31 : decode cX8_readNumber 31 = .ok (.ifCond .eq 7, 3) := dk_153 0 7 (dk_at dksX8_readNumber_1 7 rfl rfl)
theorem dX8_readNumber_34 : decode cX8_readNumber 34 = .ok (.iconst 1, 1) := dk_4 (dk_at dksX8_readNumber_1 10 rfl rfl)
theorem dX8_readNumber_35 : decode cX8_readNumber 35 = .ok (.goto 4, 3) := dk_167 0 4 (dk_at dksX8_readNumber_1 11 rfl rfl)
theorem dX8_readNumber_38 : decode cX8_readNumber 38 = .ok (.iconst 0, 1) := dk_3 (dk_at dksX8_readNumber_1 14 rfl rfl)
theorem dX8_readNumber_39 : decode cX8_readNumber 39 = .ok (.iadd, 1) := dk_96 (dk_at dksX8_readNumber_1 15 rfl rfl)
theorem dX8_readNumber_40 : decode cX8_readNumber 40 = .ok (.istore_n 2, 1) := dk_61 (dk_at dksX8_readNumber_1 16 rfl rfl)
theorem dX8_readNumber_41 : decode cX8_readNumber 41 = .ok (.iinc 3 1, 3) := dk_132 3 1 (dk_at dksX8_readNumber_1 17 rfl rfl)
theorem dX8_readNumber_44 : decode cX8_readNumber 44 = .ok (.goto (-25), 3) := dk_167 255 231 (dk_at dksX8_readNumber_1 20 rfl rfl)
theorem dX8_readNumber_47 : decode cX8_readNumber 47 = .ok (.iload_n 2, 1) := dk_28 (dk_at dksX8_readNumber_1 23 rfl rfl)
theorem dX8_readNumber_48 : decode cX8_readNumber 48 = .ok (.ireturn, 1) := dk_172 (dk_at dksX8_readNumber_2 0 rfl rfl)
abbrev cX8_zeros : ByteArray := prog_4_method_9_code
def yX8_zeros : MethodName := ⟨RX8, "zeros", "(II)I"⟩
def dkwX8_zeros_1 : List UInt8 := [96, 172]
abbrev dktX8_zeros_1 : List UInt8 := dkwX8_zeros_1 ++ []
def dkwX8_zeros_0 : List UInt8 := [27, 62, 29, 27, 28, 96, 162, 0, 16, 42, 180, 0, 18, 29, 3, 79, 132, 3, 1, 167, 255, 239, 27, 28]
abbrev dktX8_zeros_0 : List UInt8 := dkwX8_zeros_0 ++ dktX8_zeros_1
theorem dksX8_zeros_0 : cX8_zeros.data.toList.drop 0 = dktX8_zeros_0 := by decide +kernel
theorem dksX8_zeros_1 : cX8_zeros.data.toList.drop 24 = dktX8_zeros_1 := dk_seg dksX8_zeros_0 24 rfl rfl
theorem dX8_zeros_0 : decode cX8_zeros 0 = .ok (.iload_n 1, 1) := dk_27 (dk_at dksX8_zeros_0 0 rfl rfl)
theorem dX8_zeros_1 : decode cX8_zeros 1 = .ok (.istore_n 3, 1) := dk_62 (dk_at dksX8_zeros_0 1 rfl rfl)
theorem dX8_zeros_2 : decode cX8_zeros 2 = .ok (.iload_n 3, 1) := dk_29 (dk_at dksX8_zeros_0 2 rfl rfl)
theorem dX8_zeros_3 : decode cX8_zeros 3 = .ok (.iload_n 1, 1) := dk_27 (dk_at dksX8_zeros_0 3 rfl rfl)
theorem dX8_zeros_4 : decode cX8_zeros 4 = .ok (.iload_n 2, 1) := dk_28 (dk_at dksX8_zeros_0 4 rfl rfl)
theorem dX8_zeros_5 : decode cX8_zeros 5 = .ok (.iadd, 1) := dk_96 (dk_at dksX8_zeros_0 5 rfl rfl)
theorem dX8_zeros_6 : decode cX8_zeros 6 = .ok (.if_icmp .ge 16, 3) := dk_162 0 16 (dk_at dksX8_zeros_0 6 rfl rfl)
theorem dX8_zeros_9 : decode cX8_zeros 9 = .ok (.aload_n 0, 1) := dk_42 (dk_at dksX8_zeros_0 9 rfl rfl)
theorem dX8_zeros_10 : decode cX8_zeros 10 = .ok (.getfield 18, 3) := dk_180 0 18 (dk_at dksX8_zeros_0 10 rfl rfl)
theorem dX8_zeros_13 : decode cX8_zeros 13 = .ok (.iload_n 3, 1) := dk_29 (dk_at dksX8_zeros_0 13 rfl rfl)
theorem dX8_zeros_14 : decode cX8_zeros 14 = .ok (.iconst 0, 1) := dk_3 (dk_at dksX8_zeros_0 14 rfl rfl)
theorem dX8_zeros_15 : decode cX8_zeros 15 = .ok (.iastore, 1) := dk_79 (dk_at dksX8_zeros_0 15 rfl rfl)
theorem dX8_zeros_16 : decode cX8_zeros 16 = .ok (.iinc 3 1, 3) := dk_132 3 1 (dk_at dksX8_zeros_0 16 rfl rfl)
theorem dX8_zeros_19 : decode cX8_zeros 19 = .ok (.goto (-17), 3) := dk_167 255 239 (dk_at dksX8_zeros_0 19 rfl rfl)
theorem dX8_zeros_22 : decode cX8_zeros 22 = .ok (.iload_n 1, 1) := dk_27 (dk_at dksX8_zeros_0 22 rfl rfl)
theorem dX8_zeros_23 : decode cX8_zeros 23 = .ok (.iload_n 2, 1) := dk_28 (dk_at dksX8_zeros_0 23 rfl rfl)
theorem dX8_zeros_24 : decode cX8_zeros 24 = .ok (.iadd, 1) := dk_96 (dk_at dksX8_zeros_1 0 rfl rfl)
theorem dX8_zeros_25 : decode cX8_zeros 25 = .ok (.ireturn, 1) := dk_172 (dk_at dksX8_zeros_1 1 rfl rfl)
theorem q120 : (Jvm.Cond.initialized "CrumbPictures$Code") ∈ lw_all := lw_g (lw_at lw_m1 15 rfl) rfl
theorem q345 : (Jvm.Cond.fieldLinkNest "CrumbPictures$Code" (51 : Nat) "CrumbPictures$Order" "cells" "[I" "CrumbPictures") ∈ lw_tbl := lw_at lw_m2 0 rfl
theorem q391 : (Jvm.Cond.instantiable "CrumbPictures$Code" (4 : Nat)) ∈ lw_all := lw_g (lw_at lw_m2 46 rfl) rfl
theorem q393 : (Jvm.Cond.instanceMethod ({ cls := "CrumbPictures$Code", name := "<init>", desc := "()V" } : Jvm.MethodName)) ∈ lw_all := lw_g (lw_at lw_m2 48 rfl) rfl
theorem q394 : (Jvm.Cond.code ({ cls := "CrumbPictures$Code", name := "<init>", desc := "()V" } : Jvm.MethodName) prog_4_method_1_code (1 : Nat) (Option.none : Option Jvm.ClassFile.FieldType)) ∈ lw_all := lw_g (lw_at lw_m2 49 rfl) rfl
theorem q395 : (Jvm.Cond.methodLink "CrumbPictures$Code" (3 : Nat) ({ cls := "java/lang/Object", name := "<init>", desc := "()V" } : Jvm.MethodName)) ∈ lw_all := lw_g (lw_at lw_m2 50 rfl) rfl
theorem q396 : (Jvm.Cond.classLink "CrumbPictures$Code" (9 : Nat) "java/util/BitSet") ∈ lw_all := lw_g (lw_at lw_m2 51 rfl) rfl
theorem q398 : (Jvm.Cond.methodLink "CrumbPictures$Code" (11 : Nat) ({ cls := "java/util/BitSet", name := "<init>", desc := "()V" } : Jvm.MethodName)) ∈ lw_all := lw_g (lw_at lw_m2 53 rfl) rfl
theorem q420 : (Jvm.Cond.fieldLink "CrumbPictures$Code" (12 : Nat) "CrumbPictures$Code" "bits" "Ljava/util/BitSet;") ∈ lw_all := lw_g (lw_at lw_m2 75 rfl) rfl
theorem q422 : (Jvm.Cond.fieldLink "CrumbPictures$Code" (18 : Nat) "CrumbPictures$Code" "parts" "[I") ∈ lw_all := lw_g (lw_at lw_m2 77 rfl) rfl
theorem q423 : (Jvm.Cond.fieldLink "CrumbPictures$Code" (22 : Nat) "CrumbPictures$Code" "length" "I") ∈ lw_all := lw_g (lw_at lw_m2 78 rfl) rfl
theorem q425 : (Jvm.Cond.fieldLink "CrumbPictures$Code" (65 : Nat) "CrumbPictures$Code" "at" "I") ∈ lw_all := lw_g (lw_at lw_m2 80 rfl) rfl
theorem q426 : (Jvm.Cond.laysFinal "CrumbPictures$Code" "CrumbPictures$Code" "bits" "Ljava/util/BitSet;") ∈ lw_all := lw_g (lw_at lw_m2 81 rfl) rfl
theorem q427 : (Jvm.Cond.soleField "CrumbPictures$Code" "bits") ∈ lw_all := lw_g (lw_at lw_m2 82 rfl) rfl
theorem q428 : (Jvm.Cond.laysFinal "CrumbPictures$Code" "CrumbPictures$Code" "parts" "[I") ∈ lw_all := lw_g (lw_at lw_m2 83 rfl) rfl
theorem q429 : (Jvm.Cond.soleField "CrumbPictures$Code" "parts") ∈ lw_all := lw_g (lw_at lw_m2 84 rfl) rfl
theorem q430 : (Jvm.Cond.lays "CrumbPictures$Code" "CrumbPictures$Code" "length" "I") ∈ lw_all := lw_g (lw_at lw_m2 85 rfl) rfl
theorem q431 : (Jvm.Cond.soleField "CrumbPictures$Code" "length") ∈ lw_all := lw_g (lw_at lw_m2 86 rfl) rfl
theorem q432 : (Jvm.Cond.lays "CrumbPictures$Code" "CrumbPictures$Code" "at" "I") ∈ lw_all := lw_g (lw_at lw_m2 87 rfl) rfl
theorem q433 : (Jvm.Cond.soleField "CrumbPictures$Code" "at") ∈ lw_all := lw_g (lw_at lw_m2 88 rfl) rfl
theorem q434 : (Jvm.Cond.superclass "CrumbPictures$Code" "java/lang/Object") ∈ lw_all := lw_g (lw_at lw_m2 89 rfl) rfl
theorem q601 : (Jvm.Cond.selects "CrumbPictures$Code" ({ cls := "java/lang/Object", name := "getClass", desc := "()Ljava/lang/Class;" } : Jvm.MethodName) ({ cls := "java/lang/Object", name := "getClass", desc := "()Ljava/lang/Class;" } : Jvm.MethodName)) ∈ lw_all := lw_g (lw_at lw_m3 16 rfl) rfl
theorem q1088 : (Jvm.Cond.instanceMethod ({ cls := "CrumbPictures$Code", name := "write", desc := "([ILCrumbPictures$Order;)LCrumbPictures$Code;" } : Jvm.MethodName)) ∈ lw_all := lw_g (lw_at lw_m5 23 rfl) rfl
theorem q1089 : (Jvm.Cond.selects "CrumbPictures$Code" ({ cls := "CrumbPictures$Code", name := "write", desc := "([ILCrumbPictures$Order;)LCrumbPictures$Code;" } : Jvm.MethodName) ({ cls := "CrumbPictures$Code", name := "write", desc := "([ILCrumbPictures$Order;)LCrumbPictures$Code;" } : Jvm.MethodName)) ∈ lw_all := lw_g (lw_at lw_m5 24 rfl) rfl
theorem q1090 : (Jvm.Cond.code ({ cls := "CrumbPictures$Code", name := "write", desc := "([ILCrumbPictures$Order;)LCrumbPictures$Code;" } : Jvm.MethodName) prog_4_method_4_code (5 : Nat) (Option.some (Jvm.ClassFile.FieldType.object "CrumbPictures$Code"))) ∈ lw_all := lw_g (lw_at lw_m5 25 rfl) rfl
theorem q1091 : (Jvm.Cond.methodLink "CrumbPictures$Code" (40 : Nat) ({ cls := "java/util/BitSet", name := "clear", desc := "()V" } : Jvm.MethodName)) ∈ lw_all := lw_g (lw_at lw_m5 26 rfl) rfl
theorem q1095 : (Jvm.Cond.methodLink "CrumbPictures$Code" (43 : Nat) ({ cls := "CrumbPictures$Code", name := "runFrom", desc := "([ILCrumbPictures$Order;I)I" } : Jvm.MethodName)) ∈ lw_all := lw_g (lw_at lw_m5 30 rfl) rfl
theorem q1096 : (Jvm.Cond.static ({ cls := "CrumbPictures$Code", name := "runFrom", desc := "([ILCrumbPictures$Order;I)I" } : Jvm.MethodName)) ∈ lw_all := lw_g (lw_at lw_m5 31 rfl) rfl
theorem q1097 : (Jvm.Cond.code ({ cls := "CrumbPictures$Code", name := "runFrom", desc := "([ILCrumbPictures$Order;I)I" } : Jvm.MethodName) prog_4_method_5_code (4 : Nat) (Option.some Jvm.ClassFile.FieldType.int)) ∈ lw_all := lw_g (lw_at lw_m5 32 rfl) rfl
theorem q1098 : (Jvm.Cond.methodLink "CrumbPictures$Code" (36 : Nat) ({ cls := "CrumbPictures$Code", name := "bit", desc := "(Z)V" } : Jvm.MethodName)) ∈ lw_all := lw_g (lw_at lw_m5 33 rfl) rfl
theorem q1099 : (Jvm.Cond.privateMethod ({ cls := "CrumbPictures$Code", name := "bit", desc := "(Z)V" } : Jvm.MethodName)) ∈ lw_tbl := lw_at lw_m5 34 rfl
theorem q1100 : (Jvm.Cond.instanceMethod ({ cls := "CrumbPictures$Code", name := "bit", desc := "(Z)V" } : Jvm.MethodName)) ∈ lw_all := lw_g (lw_at lw_m5 35 rfl) rfl
theorem q1101 : (Jvm.Cond.code ({ cls := "CrumbPictures$Code", name := "bit", desc := "(Z)V" } : Jvm.MethodName) prog_4_method_2_code (2 : Nat) (Option.none : Option Jvm.ClassFile.FieldType)) ∈ lw_all := lw_g (lw_at lw_m5 36 rfl) rfl
theorem q1102 : (Jvm.Cond.methodLink "CrumbPictures$Code" (26 : Nat) ({ cls := "java/util/BitSet", name := "set", desc := "(IZ)V" } : Jvm.MethodName)) ∈ lw_all := lw_g (lw_at lw_m5 37 rfl) rfl
theorem q1160 : (Jvm.Cond.methodLink "CrumbPictures$Code" (47 : Nat) ({ cls := "CrumbPictures$Code", name := "number", desc := "(I)V" } : Jvm.MethodName)) ∈ lw_all := lw_g (lw_at lw_m5 95 rfl) rfl
theorem q1161 : (Jvm.Cond.privateMethod ({ cls := "CrumbPictures$Code", name := "number", desc := "(I)V" } : Jvm.MethodName)) ∈ lw_tbl := lw_at lw_m5 96 rfl
theorem q1162 : (Jvm.Cond.instanceMethod ({ cls := "CrumbPictures$Code", name := "number", desc := "(I)V" } : Jvm.MethodName)) ∈ lw_all := lw_g (lw_at lw_m5 97 rfl) rfl
theorem q1163 : (Jvm.Cond.code ({ cls := "CrumbPictures$Code", name := "number", desc := "(I)V" } : Jvm.MethodName) prog_4_method_3_code (4 : Nat) (Option.none : Option Jvm.ClassFile.FieldType)) ∈ lw_all := lw_g (lw_at lw_m5 98 rfl) rfl
theorem q1164 : (Jvm.Cond.methodLink "CrumbPictures$Code" (30 : Nat) ({ cls := "java/lang/Integer", name := "numberOfLeadingZeros", desc := "(I)I" } : Jvm.MethodName)) ∈ lw_all := lw_g (lw_at lw_m5 99 rfl) rfl
theorem q1168 : (Jvm.Cond.methodLink "CrumbPictures$Code" (56 : Nat) ({ cls := "java/lang/Math", name := "abs", desc := "(I)I" } : Jvm.MethodName)) ∈ lw_all := lw_g (lw_at lw_m5 103 rfl) rfl
theorem q1171 : (Jvm.Cond.methodLink "CrumbPictures$Code" (61 : Nat) ({ cls := "java/lang/Math", name := "max", desc := "(II)I" } : Jvm.MethodName)) ∈ lw_all := lw_g (lw_at lw_m5 106 rfl) rfl
theorem q1311 : (Jvm.Cond.instanceMethod ({ cls := "CrumbPictures$Code", name := "read", desc := "()[I" } : Jvm.MethodName)) ∈ lw_all := lw_g (lw_at lw_m6 6 rfl) rfl
theorem q1312 : (Jvm.Cond.selects "CrumbPictures$Code" ({ cls := "CrumbPictures$Code", name := "read", desc := "()[I" } : Jvm.MethodName) ({ cls := "CrumbPictures$Code", name := "read", desc := "()[I" } : Jvm.MethodName)) ∈ lw_all := lw_g (lw_at lw_m6 7 rfl) rfl
theorem q1313 : (Jvm.Cond.code ({ cls := "CrumbPictures$Code", name := "read", desc := "()[I" } : Jvm.MethodName) prog_4_method_8_code (4 : Nat) (Option.some (Jvm.ClassFile.FieldType.array Jvm.ClassFile.FieldType.int))) ∈ lw_all := lw_g (lw_at lw_m6 8 rfl) rfl
theorem q1314 : (Jvm.Cond.methodLink "CrumbPictures$Code" (72 : Nat) ({ cls := "CrumbPictures$Code", name := "next", desc := "()Z" } : Jvm.MethodName)) ∈ lw_all := lw_g (lw_at lw_m6 9 rfl) rfl
theorem q1315 : (Jvm.Cond.privateMethod ({ cls := "CrumbPictures$Code", name := "next", desc := "()Z" } : Jvm.MethodName)) ∈ lw_tbl := lw_at lw_m6 10 rfl
theorem q1316 : (Jvm.Cond.instanceMethod ({ cls := "CrumbPictures$Code", name := "next", desc := "()Z" } : Jvm.MethodName)) ∈ lw_all := lw_g (lw_at lw_m6 11 rfl) rfl
theorem q1317 : (Jvm.Cond.code ({ cls := "CrumbPictures$Code", name := "next", desc := "()Z" } : Jvm.MethodName) prog_4_method_6_code (1 : Nat) (Option.some Jvm.ClassFile.FieldType.boolean)) ∈ lw_all := lw_g (lw_at lw_m6 12 rfl) rfl
theorem q1318 : (Jvm.Cond.methodLink "CrumbPictures$Code" (68 : Nat) ({ cls := "java/util/BitSet", name := "get", desc := "(I)Z" } : Jvm.MethodName)) ∈ lw_all := lw_g (lw_at lw_m6 13 rfl) rfl
theorem q1322 : (Jvm.Cond.methodLink "CrumbPictures$Code" (76 : Nat) ({ cls := "CrumbPictures$Code", name := "readNumber", desc := "()I" } : Jvm.MethodName)) ∈ lw_all := lw_g (lw_at lw_m6 17 rfl) rfl
theorem q1323 : (Jvm.Cond.privateMethod ({ cls := "CrumbPictures$Code", name := "readNumber", desc := "()I" } : Jvm.MethodName)) ∈ lw_tbl := lw_at lw_m6 18 rfl
theorem q1324 : (Jvm.Cond.instanceMethod ({ cls := "CrumbPictures$Code", name := "readNumber", desc := "()I" } : Jvm.MethodName)) ∈ lw_all := lw_g (lw_at lw_m6 19 rfl) rfl
theorem q1325 : (Jvm.Cond.code ({ cls := "CrumbPictures$Code", name := "readNumber", desc := "()I" } : Jvm.MethodName) prog_4_method_7_code (4 : Nat) (Option.some Jvm.ClassFile.FieldType.int)) ∈ lw_all := lw_g (lw_at lw_m6 20 rfl) rfl
theorem q1326 : (Jvm.Cond.methodLink "CrumbPictures$Code" (80 : Nat) ({ cls := "CrumbPictures$Code", name := "zeros", desc := "(II)I" } : Jvm.MethodName)) ∈ lw_all := lw_g (lw_at lw_m6 21 rfl) rfl
theorem q1327 : (Jvm.Cond.privateMethod ({ cls := "CrumbPictures$Code", name := "zeros", desc := "(II)I" } : Jvm.MethodName)) ∈ lw_tbl := lw_at lw_m6 22 rfl
theorem q1328 : (Jvm.Cond.instanceMethod ({ cls := "CrumbPictures$Code", name := "zeros", desc := "(II)I" } : Jvm.MethodName)) ∈ lw_all := lw_g (lw_at lw_m6 23 rfl) rfl
theorem q1329 : (Jvm.Cond.code ({ cls := "CrumbPictures$Code", name := "zeros", desc := "(II)I" } : Jvm.MethodName) prog_4_method_9_code (4 : Nat) (Option.some Jvm.ClassFile.FieldType.int)) ∈ lw_all := lw_g (lw_at lw_m6 24 rfl) rfl
theorem q2161 : (Jvm.Cond.castable "CrumbPictures$Code" "java/lang/Object") ∈ lw_tbl := lw_at lw_m9 136 rfl
theorem in_X8 : ∀ w ∈ wsX80, w ∈ lw_all := lw_in wsX80 [426, 428, 430, 432] (by decide +kernel) (by decide +kernel)
/-! CrumbPictures$Reader -/
set_option maxRecDepth 100000
def RX10 : String := "CrumbPictures$Reader"
def TX10 : u_T := fun k => match k with
  | 0 => ("CrumbPictures$Reader", "found", "[I", true)
  | 1 => ("CrumbPictures$Reader", "many", "I", false)
  | 2 => ("CrumbPictures$Reader", "place", "I", false)
  | _ => ("CrumbPictures$Reader", "this$0", "LCrumbPictures;", true)
def tyX10 : Nat → FieldType := fun k => match k with
  | 0 => .array .int
  | 1 => .int
  | 2 => .int
  | _ => .object "CrumbPictures"
abbrev wsX100 : List Cond := u_ws RX10 TX10 4
theorem nmX10 : ∀ a, a < 4 → ∀ b, b < 4 → a ≠ b → (TX10 a).2.1 ≠ (TX10 b).2.1 := by decide +kernel
theorem tyX10_ok : ∀ k, k < 4 → parseFieldDescriptor (TX10 k).2.2.1 = some (tyX10 k) := by decide +kernel
abbrev cX10_init : ByteArray := prog_6_method_1_code
def yX10_init : MethodName := ⟨RX10, "<init>", "(LCrumbPictures;)V"⟩
def dkwX10_init_0 : List UInt8 := [42, 43, 181, 0, 3, 42, 183, 0, 9, 42, 17, 0, 240, 188, 10, 181, 0, 15, 177]
abbrev dktX10_init_0 : List UInt8 := dkwX10_init_0 ++ []
theorem dksX10_init_0 : cX10_init.data.toList.drop 0 = dktX10_init_0 := by decide +kernel
theorem dX10_init_0 : decode cX10_init 0 = .ok (.aload_n 0, 1) := dk_42 (dk_at dksX10_init_0 0 rfl rfl)
theorem dX10_init_1 : decode cX10_init 1 = .ok (.aload_n 1, 1) := dk_43 (dk_at dksX10_init_0 1 rfl rfl)
theorem dX10_init_2 : decode cX10_init 2 = .ok (.putfield 3, 3) := dk_181 0 3 (dk_at dksX10_init_0 2 rfl rfl)
theorem dX10_init_5 : decode cX10_init 5 = .ok (.aload_n 0, 1) := dk_42 (dk_at dksX10_init_0 5 rfl rfl)
theorem dX10_init_6 : decode cX10_init 6 = .ok (.invokespecial 9, 3) := dk_183 0 9 (dk_at dksX10_init_0 6 rfl rfl)
theorem dX10_init_9 : decode cX10_init 9 = .ok (.aload_n 0, 1) := dk_42 (dk_at dksX10_init_0 9 rfl rfl)
theorem dX10_init_10 : decode cX10_init 10 = .ok (.sipush 240, 3) := dk_17 0 240 (dk_at dksX10_init_0 10 rfl rfl)
theorem dX10_init_13 : decode cX10_init 13 = .ok (.newarray .int, 2) := dk_188_10 (dk_at dksX10_init_0 13 rfl rfl)
theorem dX10_init_15 : decode cX10_init 15 = .ok (.putfield 15, 3) := dk_181 0 15 (dk_at dksX10_init_0 15 rfl rfl)
theorem dX10_init_18 : decode cX10_init 18 = .ok (.return_, 1) := dk_177 (dk_at dksX10_init_0 18 rfl rfl)
abbrev cX10_areWorks : ByteArray := prog_6_method_11_code
def yX10_areWorks : MethodName := ⟨RX10, "areWorks", "()Z"⟩
def dkwX10_areWorks_2 : List UInt8 := [4, 167, 0, 4, 3, 172]
abbrev dktX10_areWorks_2 : List UInt8 := dkwX10_areWorks_2 ++ []
def dkwX10_areWorks_1 : List UInt8 := [167, 255, 238, 27, 153, 0, 24, 42, 180, 0, 19, 42, 180, 0, 3, 180, 0, 23, 182, 0, 27, 160, 0, 7]
abbrev dktX10_areWorks_1 : List UInt8 := dkwX10_areWorks_1 ++ dktX10_areWorks_2
def dkwX10_areWorks_0 : List UInt8 := [42, 182, 0, 77, 60, 27, 153, 0, 20, 42, 16, 59, 182, 0, 60, 153, 0, 11, 42, 182, 0, 77, 60]
abbrev dktX10_areWorks_0 : List UInt8 := dkwX10_areWorks_0 ++ dktX10_areWorks_1
theorem dksX10_areWorks_0 : cX10_areWorks.data.toList.drop 0 = dktX10_areWorks_0 := by decide +kernel
theorem dksX10_areWorks_1 : cX10_areWorks.data.toList.drop 23 = dktX10_areWorks_1 := dk_seg dksX10_areWorks_0 23 rfl rfl
theorem dksX10_areWorks_2 : cX10_areWorks.data.toList.drop 47 = dktX10_areWorks_2 := dk_seg dksX10_areWorks_1 24 rfl rfl
theorem dX10_areWorks_0 : decode cX10_areWorks 0 = .ok (.aload_n 0, 1) := dk_42 (dk_at dksX10_areWorks_0 0 rfl rfl)
theorem dX10_areWorks_1 : decode cX10_areWorks 1 = .ok (.invokevirtual 77, 3) := dk_182 0 77 (dk_at dksX10_areWorks_0 1 rfl rfl)
theorem dX10_areWorks_4 : decode cX10_areWorks 4 = .ok (.istore_n 1, 1) := dk_60 (dk_at dksX10_areWorks_0 4 rfl rfl)
theorem dX10_areWorks_5 : decode cX10_areWorks 5 = .ok (.iload_n 1, 1) := dk_27 (dk_at dksX10_areWorks_0 5 rfl rfl)
theorem dX10_areWorks_6 : decode cX10_areWorks 6 = .ok (.ifCond .eq 20, 3) := dk_153 0 20 (dk_at dksX10_areWorks_0 6 rfl rfl)
theorem dX10_areWorks_9 : decode cX10_areWorks 9 = .ok (.aload_n 0, 1) := dk_42 (dk_at dksX10_areWorks_0 9 rfl rfl)
theorem dX10_areWorks_10 : decode cX10_areWorks 10 = .ok (.bipush 59, 2) := dk_16 59 (dk_at dksX10_areWorks_0 10 rfl rfl)
theorem dX10_areWorks_12 : decode cX10_areWorks 12 = .ok (.invokevirtual 60, 3) := dk_182 0 60 (dk_at dksX10_areWorks_0 12 rfl rfl)
theorem dX10_areWorks_15 : decode cX10_areWorks 15 = .ok (.ifCond .eq 11, 3) := dk_153 0 11 (dk_at dksX10_areWorks_0 15 rfl rfl)
theorem dX10_areWorks_18 : decode cX10_areWorks 18 = .ok (.aload_n 0, 1) := dk_42 (dk_at dksX10_areWorks_0 18 rfl rfl)
theorem dX10_areWorks_19 : decode cX10_areWorks 19 = .ok (.invokevirtual 77, 3) := dk_182 0 77 (dk_at dksX10_areWorks_0 19 rfl rfl)
theorem dX10_areWorks_22 : decode cX10_areWorks 22 = .ok (.istore_n 1, 1) := dk_60 (dk_at dksX10_areWorks_0 22 rfl rfl)
theorem dX10_areWorks_23 : decode cX10_areWorks 23 = .ok (.goto (-18), 3) := dk_167 255 238 (dk_at dksX10_areWorks_1 0 rfl rfl)
theorem dX10_areWorks_26 : decode cX10_areWorks 26 = .ok (.iload_n 1, 1) := dk_27 (dk_at dksX10_areWorks_1 3 rfl rfl)
theorem dX10_areWorks_27 : decode cX10_areWorks 27 = .ok (.ifCond .eq 24, 3) := dk_153 0 24 (dk_at dksX10_areWorks_1 4 rfl rfl)
theorem dX10_areWorks_30 : decode cX10_areWorks 30 = .ok (.aload_n 0, 1) := dk_42 (dk_at dksX10_areWorks_1 7 rfl rfl)
theorem dX10_areWorks_31 : decode cX10_areWorks 31 = .ok (.getfield 19, 3) := dk_180 0 19 (dk_at dksX10_areWorks_1 8 rfl rfl)
theorem dX10_areWorks_34 : decode cX10_areWorks 34 = .ok (.aload_n 0, 1) := dk_42 (dk_at dksX10_areWorks_1 11 rfl rfl)
theorem dX10_areWorks_35 : decode cX10_areWorks 35 = .ok (.getfield 3, 3) := dk_180 0 3 (dk_at dksX10_areWorks_1 12 rfl rfl)
theorem dX10_areWorks_38 : decode cX10_areWorks 38 = .ok (.getfield 23, 3) := dk_180 0 23 (dk_at dksX10_areWorks_1 15 rfl rfl)
theorem dX10_areWorks_41 : decode cX10_areWorks 41 = .ok (.invokevirtual 27, 3) := dk_182 0 27 (dk_at dksX10_areWorks_1 18 rfl rfl)
theorem dX10_areWorks_44 : decode cX10_areWorks 44 = .ok (.if_icmp .ne 7, 3) := dk_160 0 7 (dk_at dksX10_areWorks_1 21 rfl rfl)
theorem dX10_areWorks_47 : decode cX10_areWorks 47 = .ok (.iconst 1, 1) := dk_4 (dk_at dksX10_areWorks_2 0 rfl rfl)
theorem dX10_areWorks_48 : decode cX10_areWorks 48 = .ok (.goto 4, 3) := dk_167 0 4 (dk_at dksX10_areWorks_2 1 rfl rfl)
theorem dX10_areWorks_51 : decode cX10_areWorks 51 = .ok (.iconst 0, 1) := dk_3 (dk_at dksX10_areWorks_2 4 rfl rfl)
theorem dX10_areWorks_52 : decode cX10_areWorks 52 = .ok (.ireturn, 1) := dk_172 (dk_at dksX10_areWorks_2 5 rfl rfl)
abbrev cX10_part : ByteArray := prog_6_method_10_code
def yX10_part : MethodName := ⟨RX10, "part", "()Z"⟩
def dkwX10_part_2 : List UInt8 := [182, 0, 74, 153, 0, 7, 4, 167, 0, 4, 3, 62, 42, 89, 180, 0, 50, 4, 96, 181, 0, 50, 29, 172]
abbrev dktX10_part_2 : List UInt8 := dkwX10_part_2 ++ []
def dkwX10_part_1 : List UInt8 := [3, 96, 181, 0, 19, 42, 180, 0, 15, 7, 42, 180, 0, 50, 104, 27, 79, 28, 153, 0, 15, 42, 27]
abbrev dktX10_part_1 : List UInt8 := dkwX10_part_1 ++ dktX10_part_2
def dkwX10_part_0 : List UInt8 := [42, 182, 0, 37, 60, 42, 27, 182, 0, 71, 61, 42, 89, 180, 0, 19, 28, 153, 0, 7, 4, 167, 0, 4]
abbrev dktX10_part_0 : List UInt8 := dkwX10_part_0 ++ dktX10_part_1
theorem dksX10_part_0 : cX10_part.data.toList.drop 0 = dktX10_part_0 := by decide +kernel
theorem dksX10_part_1 : cX10_part.data.toList.drop 24 = dktX10_part_1 := dk_seg dksX10_part_0 24 rfl rfl
theorem dksX10_part_2 : cX10_part.data.toList.drop 47 = dktX10_part_2 := dk_seg dksX10_part_1 23 rfl rfl
theorem dX10_part_0 : decode cX10_part 0 = .ok (.aload_n 0, 1) := dk_42 (dk_at dksX10_part_0 0 rfl rfl)
theorem dX10_part_1 : decode cX10_part 1 = .ok (.invokevirtual 37, 3) := dk_182 0 37 (dk_at dksX10_part_0 1 rfl rfl)
theorem dX10_part_4 : decode cX10_part 4 = .ok (.istore_n 1, 1) := dk_60 (dk_at dksX10_part_0 4 rfl rfl)
theorem dX10_part_5 : decode cX10_part 5 = .ok (.aload_n 0, 1) := dk_42 (dk_at dksX10_part_0 5 rfl rfl)
theorem dX10_part_6 : decode cX10_part 6 = .ok (.iload_n 1, 1) := dk_27 (dk_at dksX10_part_0 6 rfl rfl)
theorem dX10_part_7 : decode cX10_part 7 = .ok (.invokevirtual 71, 3) := dk_182 0 71 (dk_at dksX10_part_0 7 rfl rfl)
theorem dX10_part_10 : decode cX10_part 10 = .ok (.istore_n 2, 1) := dk_61 (dk_at dksX10_part_0 10 rfl rfl)
theorem dX10_part_11 : decode cX10_part 11 = .ok (.aload_n 0, 1) := dk_42 (dk_at dksX10_part_0 11 rfl rfl)
theorem dX10_part_12 : decode cX10_part 12 = .ok (.dup, 1) := dk_89 (dk_at dksX10_part_0 12 rfl rfl)
theorem dX10_part_13 : decode cX10_part 13 = .ok (.getfield 19, 3) := dk_180 0 19 (dk_at dksX10_part_0 13 rfl rfl)
theorem dX10_part_16 : decode cX10_part 16 = .ok (.iload_n 2, 1) := dk_28 (dk_at dksX10_part_0 16 rfl rfl)
theorem dX10_part_17 : decode cX10_part 17 = .ok (.ifCond .eq 7, 3) := dk_153 0 7 (dk_at dksX10_part_0 17 rfl rfl)
theorem dX10_part_20 : decode cX10_part 20 = .ok (.iconst 1, 1) := dk_4 (dk_at dksX10_part_0 20 rfl rfl)
theorem dX10_part_21 : decode cX10_part 21 = .ok (.goto 4, 3) := dk_167 0 4 (dk_at dksX10_part_0 21 rfl rfl)
theorem dX10_part_24 : decode cX10_part 24 = .ok (.iconst 0, 1) := dk_3 (dk_at dksX10_part_1 0 rfl rfl)
theorem dX10_part_25 : decode cX10_part 25 = .ok (.iadd, 1) := dk_96 (dk_at dksX10_part_1 1 rfl rfl)
theorem dX10_part_26 : decode cX10_part 26 = .ok (.putfield 19, 3) := dk_181 0 19 (dk_at dksX10_part_1 2 rfl rfl)
theorem dX10_part_29 : decode cX10_part 29 = .ok (.aload_n 0, 1) := dk_42 (dk_at dksX10_part_1 5 rfl rfl)
theorem dX10_part_30 : decode cX10_part 30 = .ok (.getfield 15, 3) := dk_180 0 15 (dk_at dksX10_part_1 6 rfl rfl)
theorem dX10_part_33 : decode cX10_part 33 = .ok (.iconst 4, 1) := dk_7 (dk_at dksX10_part_1 9 rfl rfl)
theorem dX10_part_34 : decode cX10_part 34 = .ok (.aload_n 0, 1) := dk_42 (dk_at dksX10_part_1 10 rfl rfl)
theorem dX10_part_35 : decode cX10_part 35 = .ok (.getfield 50, 3) := dk_180 0 50 (dk_at dksX10_part_1 11 rfl rfl)
theorem dX10_part_38 : decode cX10_part 38 = .ok (.imul, 1) := dk_104 (dk_at dksX10_part_1 14 rfl rfl)
theorem dX10_part_39 : decode cX10_part 39 = .ok (.iload_n 1, 1) := dk_27 (dk_at dksX10_part_1 15 rfl rfl)
theorem dX10_part_40 : decode cX10_part 40 = .ok (.iastore, 1) := dk_79 (dk_at dksX10_part_1 16 rfl rfl)
theorem dX10_part_41 : decode cX10_part 41 = .ok (.iload_n 2, 1) := dk_28 (dk_at dksX10_part_1 17 rfl rfl)
theorem dX10_part_42 : decode cX10_part 42 = .ok (.ifCond .eq 15, 3) := dk_153 0 15 (dk_at dksX10_part_1 18 rfl rfl)
theorem dX10_part_45 : decode cX10_part 45 = .ok (.aload_n 0, 1) := dk_42 (dk_at dksX10_part_1 21 rfl rfl)
theorem dX10_part_46 : decode cX10_part 46 = .ok (.iload_n 1, 1) := dk_27 (dk_at dksX10_part_1 22 rfl rfl)
theorem dX10_part_47 : decode cX10_part 47 = .ok (.invokevirtual 74, 3) := dk_182 0 74 (dk_at dksX10_part_2 0 rfl rfl)
theorem dX10_part_50 : decode cX10_part 50 = .ok (.ifCond .eq 7, 3) := dk_153 0 7 (dk_at dksX10_part_2 3 rfl rfl)
theorem dX10_part_53 : decode cX10_part 53 = .ok (.iconst 1, 1) := dk_4 (dk_at dksX10_part_2 6 rfl rfl)
theorem dX10_part_54 : decode cX10_part 54 = .ok (.goto 4, 3) := dk_167 0 4 (dk_at dksX10_part_2 7 rfl rfl)
theorem dX10_part_57 : decode cX10_part 57 = .ok (.iconst 0, 1) := dk_3 (dk_at dksX10_part_2 10 rfl rfl)
theorem dX10_part_58 : decode cX10_part 58 = .ok (.istore_n 3, 1) := dk_62 (dk_at dksX10_part_2 11 rfl rfl)
theorem dX10_part_59 : decode cX10_part 59 = .ok (.aload_n 0, 1) := dk_42 (dk_at dksX10_part_2 12 rfl rfl)
theorem dX10_part_60 : decode cX10_part 60 = .ok (.dup, 1) := dk_89 (dk_at dksX10_part_2 13 rfl rfl)
theorem dX10_part_61 : decode cX10_part 61 = .ok (.getfield 50, 3) := dk_180 0 50 (dk_at dksX10_part_2 14 rfl rfl)
theorem dX10_part_64 : decode cX10_part 64 = .ok (.iconst 1, 1) := dk_4 (dk_at dksX10_part_2 17 rfl rfl)
theorem dX10_part_65 : decode cX10_part 65 = .ok (.iadd, 1) := dk_96 (dk_at dksX10_part_2 18 rfl rfl)
theorem dX10_part_66 : decode cX10_part 66 = .ok (.putfield 50, 3) := dk_181 0 50 (dk_at dksX10_part_2 19 rfl rfl)
theorem dX10_part_69 : decode cX10_part 69 = .ok (.iload_n 3, 1) := dk_29 (dk_at dksX10_part_2 22 rfl rfl)
theorem dX10_part_70 : decode cX10_part 70 = .ok (.ireturn, 1) := dk_172 (dk_at dksX10_part_2 23 rfl rfl)
abbrev cX10_next : ByteArray := prog_6_method_2_code
def yX10_next : MethodName := ⟨RX10, "next", "()I"⟩
def dkwX10_next_1 : List UInt8 := [42, 180, 0, 19, 182, 0, 33, 167, 0, 4, 3, 172]
abbrev dktX10_next_1 : List UInt8 := dkwX10_next_1 ++ []
def dkwX10_next_0 : List UInt8 := [42, 180, 0, 19, 42, 180, 0, 3, 180, 0, 23, 182, 0, 27, 162, 0, 20, 42, 180, 0, 3, 180, 0, 23]
abbrev dktX10_next_0 : List UInt8 := dkwX10_next_0 ++ dktX10_next_1
theorem dksX10_next_0 : cX10_next.data.toList.drop 0 = dktX10_next_0 := by decide +kernel
theorem dksX10_next_1 : cX10_next.data.toList.drop 24 = dktX10_next_1 := dk_seg dksX10_next_0 24 rfl rfl
theorem dX10_next_0 : decode cX10_next 0 = .ok (.aload_n 0, 1) := dk_42 (dk_at dksX10_next_0 0 rfl rfl)
theorem dX10_next_1 : decode cX10_next 1 = .ok (.getfield 19, 3) := dk_180 0 19 (dk_at dksX10_next_0 1 rfl rfl)
theorem dX10_next_4 : decode cX10_next 4 = .ok (.aload_n 0, 1) := dk_42 (dk_at dksX10_next_0 4 rfl rfl)
theorem dX10_next_5 : decode cX10_next 5 = .ok (.getfield 3, 3) := dk_180 0 3 (dk_at dksX10_next_0 5 rfl rfl)
theorem dX10_next_8 : decode cX10_next 8 = .ok (.getfield 23, 3) := dk_180 0 23 (dk_at dksX10_next_0 8 rfl rfl)
theorem dX10_next_11 : decode cX10_next 11 = .ok (.invokevirtual 27, 3) := dk_182 0 27 (dk_at dksX10_next_0 11 rfl rfl)
theorem dX10_next_14 : decode cX10_next 14 = .ok (.if_icmp .ge 20, 3) := dk_162 0 20 (dk_at dksX10_next_0 14 rfl rfl)
theorem dX10_next_17 : decode cX10_next 17 = .ok (.aload_n 0, 1) := dk_42 (dk_at dksX10_next_0 17 rfl rfl)
theorem dX10_next_18 : decode cX10_next 18 = .ok (.getfield 3, 3) := dk_180 0 3 (dk_at dksX10_next_0 18 rfl rfl)
theorem dX10_next_21 : decode cX10_next 21 = .ok (.getfield 23, 3) := dk_180 0 23 (dk_at dksX10_next_0 21 rfl rfl)
theorem dX10_next_24 : decode cX10_next 24 = .ok (.aload_n 0, 1) := dk_42 (dk_at dksX10_next_1 0 rfl rfl)
theorem dX10_next_25 : decode cX10_next 25 = .ok (.getfield 19, 3) := dk_180 0 19 (dk_at dksX10_next_1 1 rfl rfl)
theorem dX10_next_28 : decode cX10_next 28 = .ok (.invokevirtual 33, 3) := dk_182 0 33 (dk_at dksX10_next_1 4 rfl rfl)
theorem dX10_next_31 : decode cX10_next 31 = .ok (.goto 4, 3) := dk_167 0 4 (dk_at dksX10_next_1 7 rfl rfl)
theorem dX10_next_34 : decode cX10_next 34 = .ok (.iconst 0, 1) := dk_3 (dk_at dksX10_next_1 10 rfl rfl)
theorem dX10_next_35 : decode cX10_next 35 = .ok (.ireturn, 1) := dk_172 (dk_at dksX10_next_1 11 rfl rfl)
abbrev cX10_isSign : ByteArray := prog_6_method_9_code
def yX10_isSign : MethodName := ⟨RX10, "isSign", "(I)Z"⟩
def dkwX10_isSign_2 : List UInt8 := [16, 105, 160, 0, 7, 4, 167, 0, 4, 3, 172]
abbrev dktX10_isSign_2 : List UInt8 := dkwX10_isSign_2 ++ []
def dkwX10_isSign_1 : List UInt8 := [4, 167, 0, 4, 3, 61, 28, 154, 0, 21, 27, 16, 114, 159, 0, 15, 27, 16, 109, 159, 0, 9, 27]
abbrev dktX10_isSign_1 : List UInt8 := dkwX10_isSign_1 ++ dktX10_isSign_2
def dkwX10_isSign_0 : List UInt8 := [27, 16, 112, 159, 0, 21, 27, 16, 100, 159, 0, 15, 27, 16, 116, 159, 0, 9, 27, 16, 108, 160, 0, 7]
abbrev dktX10_isSign_0 : List UInt8 := dkwX10_isSign_0 ++ dktX10_isSign_1
theorem dksX10_isSign_0 : cX10_isSign.data.toList.drop 0 = dktX10_isSign_0 := by decide +kernel
theorem dksX10_isSign_1 : cX10_isSign.data.toList.drop 24 = dktX10_isSign_1 := dk_seg dksX10_isSign_0 24 rfl rfl
theorem dksX10_isSign_2 : cX10_isSign.data.toList.drop 47 = dktX10_isSign_2 := dk_seg dksX10_isSign_1 23 rfl rfl
theorem dX10_isSign_0 : decode cX10_isSign 0 = .ok (.iload_n 1, 1) := dk_27 (dk_at dksX10_isSign_0 0 rfl rfl)
theorem dX10_isSign_1 : decode cX10_isSign 1 = .ok (.bipush 112, 2) := dk_16 112 (dk_at dksX10_isSign_0 1 rfl rfl)
theorem dX10_isSign_3 : decode cX10_isSign 3 = .ok (.if_icmp .eq 21, 3) := dk_159 0 21 (dk_at dksX10_isSign_0 3 rfl rfl)
theorem dX10_isSign_6 : decode cX10_isSign 6 = .ok (.iload_n 1, 1) := dk_27 (dk_at dksX10_isSign_0 6 rfl rfl)
theorem dX10_isSign_7 : decode cX10_isSign 7 = .ok (.bipush 100, 2) := dk_16 100 (dk_at dksX10_isSign_0 7 rfl rfl)
theorem dX10_isSign_9 : decode cX10_isSign 9 = .ok (.if_icmp .eq 15, 3) := dk_159 0 15 (dk_at dksX10_isSign_0 9 rfl rfl)
theorem dX10_isSign_12 : decode cX10_isSign 12 = .ok (.iload_n 1, 1) := dk_27 (dk_at dksX10_isSign_0 12 rfl rfl)
theorem dX10_isSign_13 : decode cX10_isSign 13 = .ok (.bipush 116, 2) := dk_16 116 (dk_at dksX10_isSign_0 13 rfl rfl)
theorem dX10_isSign_15 : decode cX10_isSign 15 = .ok (.if_icmp .eq 9, 3) := dk_159 0 9 (dk_at dksX10_isSign_0 15 rfl rfl)
theorem dX10_isSign_18 : decode cX10_isSign 18 = .ok (.iload_n 1, 1) := dk_27 (dk_at dksX10_isSign_0 18 rfl rfl)
theorem dX10_isSign_19 : decode cX10_isSign 19 = .ok (.bipush 108, 2) := dk_16 108 (dk_at dksX10_isSign_0 19 rfl rfl)
theorem dX10_isSign_21 : decode cX10_isSign 21 = .ok (.if_icmp .ne 7, 3) := dk_160 0 7 (dk_at dksX10_isSign_0 21 rfl rfl)
theorem dX10_isSign_24 : decode cX10_isSign 24 = .ok (.iconst 1, 1) := dk_4 (dk_at dksX10_isSign_1 0 rfl rfl)
theorem dX10_isSign_25 : decode cX10_isSign 25 = .ok (.goto 4, 3) := dk_167 0 4 (dk_at dksX10_isSign_1 1 rfl rfl)
theorem dX10_isSign_28 : decode cX10_isSign 28 = .ok (.iconst 0, 1) := dk_3 (dk_at dksX10_isSign_1 4 rfl rfl)
theorem dX10_isSign_29 : decode cX10_isSign 29 = .ok (.istore_n 2, 1) := dk_61 (dk_at dksX10_isSign_1 5 rfl rfl)
theorem dX10_isSign_30 : decode cX10_isSign 30 = .ok (.iload_n 2, 1) := dk_28 (dk_at dksX10_isSign_1 6 rfl rfl)
theorem dX10_isSign_31 : decode cX10_isSign 31 = .ok (.ifCond .ne 21, 3) := dk_154 0 21 (dk_at dksX10_isSign_1 7 rfl rfl)
theorem dX10_isSign_34 : decode cX10_isSign 34 = .ok (.iload_n 1, 1) := dk_27 (dk_at dksX10_isSign_1 10 rfl rfl)
theorem dX10_isSign_35 : decode cX10_isSign 35 = .ok (.bipush 114, 2) := dk_16 114 (dk_at dksX10_isSign_1 11 rfl rfl)
theorem dX10_isSign_37 : decode cX10_isSign 37 = .ok (.if_icmp .eq 15, 3) := dk_159 0 15 (dk_at dksX10_isSign_1 13 rfl rfl)
theorem dX10_isSign_40 : decode cX10_isSign 40 = .ok (.iload_n 1, 1) := dk_27 (dk_at dksX10_isSign_1 16 rfl rfl)
theorem dX10_isSign_41 : decode cX10_isSign 41 = .ok (.bipush 109, 2) := dk_16 109 (dk_at dksX10_isSign_1 17 rfl rfl)
theorem dX10_isSign_43 : decode cX10_isSign 43 = .ok (.if_icmp .eq 9, 3) := dk_159 0 9 (dk_at dksX10_isSign_1 19 rfl rfl)
theorem dX10_isSign_46 : decode cX10_isSign 46 = .ok (.iload_n 1, 1) := dk_27 (dk_at dksX10_isSign_1 22 rfl rfl)
theorem dX10_isSign_47 : decode cX10_isSign 47 = .ok (.bipush 105, 2) := dk_16 105 (dk_at dksX10_isSign_2 0 rfl rfl)
theorem dX10_isSign_49 : decode cX10_isSign 49 = .ok (.if_icmp .ne 7, 3) := dk_160 0 7 (dk_at dksX10_isSign_2 2 rfl rfl)
theorem dX10_isSign_52 : decode cX10_isSign 52 = .ok (.iconst 1, 1) := dk_4 (dk_at dksX10_isSign_2 5 rfl rfl)
theorem dX10_isSign_53 : decode cX10_isSign 53 = .ok (.goto 4, 3) := dk_167 0 4 (dk_at dksX10_isSign_2 6 rfl rfl)
theorem dX10_isSign_56 : decode cX10_isSign 56 = .ok (.iconst 0, 1) := dk_3 (dk_at dksX10_isSign_2 9 rfl rfl)
theorem dX10_isSign_57 : decode cX10_isSign 57 = .ok (.ireturn, 1) := dk_172 (dk_at dksX10_isSign_2 10 rfl rfl)
abbrev cX10_rest : ByteArray := prog_6_method_8_code
def yX10_rest : MethodName := ⟨RX10, "rest", "(I)Z"⟩
def dkwX10_rest_6 : List UInt8 := [172]
abbrev dktX10_rest_6 : List UInt8 := dkwX10_rest_6 ++ []
def dkwX10_rest_5 : List UInt8 := [3, 17, 0, 255, 182, 0, 53, 182, 0, 56, 172, 42, 4, 42, 4, 6, 182, 0, 53, 182, 0, 56, 172, 4]
abbrev dktX10_rest_5 : List UInt8 := dkwX10_rest_5 ++ dktX10_rest_6
def dkwX10_rest_4 : List UInt8 := [16, 61, 182, 0, 60, 153, 0, 14, 42, 182, 0, 68, 153, 0, 7, 4, 167, 0, 4, 3, 172, 42, 4, 42]
abbrev dktX10_rest_4 : List UInt8 := dkwX10_rest_4 ++ dktX10_rest_5
def dkwX10_rest_3 : List UInt8 := [182, 0, 53, 182, 0, 56, 153, 0, 7, 4, 167, 0, 4, 3, 172, 42, 182, 0, 64, 153, 0, 23, 42]
abbrev dktX10_rest_3 : List UInt8 := dkwX10_rest_3 ++ dktX10_rest_4
def dkwX10_rest_2 : List UInt8 := [42, 182, 0, 64, 153, 0, 32, 42, 16, 61, 182, 0, 60, 153, 0, 23, 42, 6, 42, 3, 17, 0, 255]
abbrev dktX10_rest_2 : List UInt8 := dkwX10_rest_2 ++ dktX10_rest_3
def dkwX10_rest_1 : List UInt8 := [171, 0, 0, 0, 0, 0, 136, 0, 0, 0, 4, 0, 0, 0, 100, 0, 0, 0, 81, 0, 0, 0, 108, 0, 0, 0, 124, 0, 0, 0, 112, 0, 0, 0, 43, 0, 0, 0, 116, 0, 0, 0, 110]
abbrev dktX10_rest_1 : List UInt8 := dkwX10_rest_1 ++ dktX10_rest_2
def dkwX10_rest_0 : List UInt8 := [27]
abbrev dktX10_rest_0 : List UInt8 := dkwX10_rest_0 ++ dktX10_rest_1
theorem dksX10_rest_0 : cX10_rest.data.toList.drop 0 = dktX10_rest_0 := by decide +kernel
theorem dksX10_rest_1 : cX10_rest.data.toList.drop 1 = dktX10_rest_1 := dk_seg dksX10_rest_0 1 rfl rfl
theorem dksX10_rest_2 : cX10_rest.data.toList.drop 44 = dktX10_rest_2 := dk_seg dksX10_rest_1 43 rfl rfl
theorem dksX10_rest_3 : cX10_rest.data.toList.drop 67 = dktX10_rest_3 := dk_seg dksX10_rest_2 23 rfl rfl
theorem dksX10_rest_4 : cX10_rest.data.toList.drop 90 = dktX10_rest_4 := dk_seg dksX10_rest_3 23 rfl rfl
theorem dksX10_rest_5 : cX10_rest.data.toList.drop 114 = dktX10_rest_5 := dk_seg dksX10_rest_4 24 rfl rfl
theorem dksX10_rest_6 : cX10_rest.data.toList.drop 138 = dktX10_rest_6 := dk_seg dksX10_rest_5 24 rfl rfl
theorem dX10_rest_0 : decode cX10_rest 0 = .ok (.iload_n 1, 1) := dk_27 (dk_at dksX10_rest_0 0 rfl rfl)
theorem dX10_rest_1 : decode cX10_rest 1 = .ok (.lookupswitch 136 #[(100, 81), (108, 124), (112, 43), (116, 110)], 43) := by decide +kernel
theorem dX10_rest_44 : decode cX10_rest 44 = .ok (.aload_n 0, 1) := dk_42 (dk_at dksX10_rest_2 0 rfl rfl)
theorem dX10_rest_45 : decode cX10_rest 45 = .ok (.invokevirtual 64, 3) := dk_182 0 64 (dk_at dksX10_rest_2 1 rfl rfl)
theorem dX10_rest_48 : decode cX10_rest 48 = .ok (.ifCond .eq 32, 3) := dk_153 0 32 (dk_at dksX10_rest_2 4 rfl rfl)
theorem dX10_rest_51 : decode cX10_rest 51 = .ok (.aload_n 0, 1) := dk_42 (dk_at dksX10_rest_2 7 rfl rfl)
theorem dX10_rest_52 : decode cX10_rest 52 = .ok (.bipush 61, 2) := dk_16 61 (dk_at dksX10_rest_2 8 rfl rfl)
theorem dX10_rest_54 : decode cX10_rest 54 = .ok (.invokevirtual 60, 3) := dk_182 0 60 (dk_at dksX10_rest_2 10 rfl rfl)
theorem dX10_rest_57 : decode cX10_rest 57 = .ok (.ifCond .eq 23, 3) := dk_153 0 23 (dk_at dksX10_rest_2 13 rfl rfl)
theorem dX10_rest_60 : decode cX10_rest 60 = .ok (.aload_n 0, 1) := dk_42 (dk_at dksX10_rest_2 16 rfl rfl)
theorem dX10_rest_61 : decode cX10_rest 61 = .ok (.iconst 3, 1) := dk_6 (dk_at dksX10_rest_2 17 rfl rfl)
theorem dX10_rest_62 : decode cX10_rest 62 = .ok (.aload_n 0, 1) := dk_42 (dk_at dksX10_rest_2 18 rfl rfl)
theorem dX10_rest_63 : decode cX10_rest 63 = .ok (.iconst 0, 1) := dk_3 (dk_at dksX10_rest_2 19 rfl rfl)
theorem dX10_rest_64 : decode cX10_rest 64 = .ok (.sipush 255, 3) := dk_17 0 255 (dk_at dksX10_rest_2 20 rfl rfl)
theorem dX10_rest_67 : decode cX10_rest 67 = .ok (.invokevirtual 53, 3) := dk_182 0 53 (dk_at dksX10_rest_3 0 rfl rfl)
theorem dX10_rest_70 : decode cX10_rest 70 = .ok (.invokevirtual 56, 3) := dk_182 0 56 (dk_at dksX10_rest_3 3 rfl rfl)
theorem dX10_rest_73 : decode cX10_rest 73 = .ok (.ifCond .eq 7, 3) := dk_153 0 7 (dk_at dksX10_rest_3 6 rfl rfl)
theorem dX10_rest_76 : decode cX10_rest 76 = .ok (.iconst 1, 1) := dk_4 (dk_at dksX10_rest_3 9 rfl rfl)
theorem dX10_rest_77 : decode cX10_rest 77 = .ok (.goto 4, 3) := dk_167 0 4 (dk_at dksX10_rest_3 10 rfl rfl)
theorem dX10_rest_80 : decode cX10_rest 80 = .ok (.iconst 0, 1) := dk_3 (dk_at dksX10_rest_3 13 rfl rfl)
theorem dX10_rest_81 : decode cX10_rest 81 = .ok (.ireturn, 1) := dk_172 (dk_at dksX10_rest_3 14 rfl rfl)
theorem dX10_rest_82 : decode cX10_rest 82 = .ok (.aload_n 0, 1) := dk_42 (dk_at dksX10_rest_3 15 rfl rfl)
theorem dX10_rest_83 : decode cX10_rest 83 = .ok (.invokevirtual 64, 3) := dk_182 0 64 (dk_at dksX10_rest_3 16 rfl rfl)
theorem dX10_rest_86 : decode cX10_rest 86 = .ok (.ifCond .eq 23, 3) := dk_153 0 23 (dk_at dksX10_rest_3 19 rfl rfl)
theorem dX10_rest_89 : decode cX10_rest 89 = .ok (.aload_n 0, 1) := dk_42 (dk_at dksX10_rest_3 22 rfl rfl)
theorem dX10_rest_90 : decode cX10_rest 90 = .ok (.bipush 61, 2) := dk_16 61 (dk_at dksX10_rest_4 0 rfl rfl)
theorem dX10_rest_92 : decode cX10_rest 92 = .ok (.invokevirtual 60, 3) := dk_182 0 60 (dk_at dksX10_rest_4 2 rfl rfl)
theorem dX10_rest_95 : decode cX10_rest 95 = .ok (.ifCond .eq 14, 3) := dk_153 0 14 (dk_at dksX10_rest_4 5 rfl rfl)
theorem dX10_rest_98 : decode cX10_rest 98 = .ok (.aload_n 0, 1) := dk_42 (dk_at dksX10_rest_4 8 rfl rfl)
theorem dX10_rest_99 : decode cX10_rest 99 = .ok (.invokevirtual 68, 3) := dk_182 0 68 (dk_at dksX10_rest_4 9 rfl rfl)
theorem dX10_rest_102 : decode cX10_rest 102 = .ok (.ifCond .eq 7, 3) := dk_153 0 7 (dk_at dksX10_rest_4 12 rfl rfl)
theorem dX10_rest_105 : decode cX10_rest 105 = .ok (.iconst 1, 1) := dk_4 (dk_at dksX10_rest_4 15 rfl rfl)
theorem dX10_rest_106 : decode cX10_rest 106 = .ok (.goto 4, 3) := dk_167 0 4 (dk_at dksX10_rest_4 16 rfl rfl)
theorem dX10_rest_109 : decode cX10_rest 109 = .ok (.iconst 0, 1) := dk_3 (dk_at dksX10_rest_4 19 rfl rfl)
theorem dX10_rest_110 : decode cX10_rest 110 = .ok (.ireturn, 1) := dk_172 (dk_at dksX10_rest_4 20 rfl rfl)
theorem dX10_rest_111 : decode cX10_rest 111 = .ok (.aload_n 0, 1) := dk_42 (dk_at dksX10_rest_4 21 rfl rfl)
theorem dX10_rest_112 : decode cX10_rest 112 = .ok (.iconst 1, 1) := dk_4 (dk_at dksX10_rest_4 22 rfl rfl)
theorem dX10_rest_113 : decode cX10_rest 113 = .ok (.aload_n 0, 1) := dk_42 (dk_at dksX10_rest_4 23 rfl rfl)
theorem dX10_rest_114 : decode cX10_rest 114 = .ok (.iconst 0, 1) := dk_3 (dk_at dksX10_rest_5 0 rfl rfl)
theorem dX10_rest_115 : decode cX10_rest 115 = .ok (.sipush 255, 3) := dk_17 0 255 (dk_at dksX10_rest_5 1 rfl rfl)
theorem dX10_rest_118 : decode cX10_rest 118 = .ok (.invokevirtual 53, 3) := dk_182 0 53 (dk_at dksX10_rest_5 4 rfl rfl)
theorem dX10_rest_121 : decode cX10_rest 121 = .ok (.invokevirtual 56, 3) := dk_182 0 56 (dk_at dksX10_rest_5 7 rfl rfl)
theorem dX10_rest_124 : decode cX10_rest 124 = .ok (.ireturn, 1) := dk_172 (dk_at dksX10_rest_5 10 rfl rfl)
theorem dX10_rest_125 : decode cX10_rest 125 = .ok (.aload_n 0, 1) := dk_42 (dk_at dksX10_rest_5 11 rfl rfl)
theorem dX10_rest_126 : decode cX10_rest 126 = .ok (.iconst 1, 1) := dk_4 (dk_at dksX10_rest_5 12 rfl rfl)
theorem dX10_rest_127 : decode cX10_rest 127 = .ok (.aload_n 0, 1) := dk_42 (dk_at dksX10_rest_5 13 rfl rfl)
theorem dX10_rest_128 : decode cX10_rest 128 = .ok (.iconst 1, 1) := dk_4 (dk_at dksX10_rest_5 14 rfl rfl)
theorem dX10_rest_129 : decode cX10_rest 129 = .ok (.iconst 3, 1) := dk_6 (dk_at dksX10_rest_5 15 rfl rfl)
theorem dX10_rest_130 : decode cX10_rest 130 = .ok (.invokevirtual 53, 3) := dk_182 0 53 (dk_at dksX10_rest_5 16 rfl rfl)
theorem dX10_rest_133 : decode cX10_rest 133 = .ok (.invokevirtual 56, 3) := dk_182 0 56 (dk_at dksX10_rest_5 19 rfl rfl)
theorem dX10_rest_136 : decode cX10_rest 136 = .ok (.ireturn, 1) := dk_172 (dk_at dksX10_rest_5 22 rfl rfl)
theorem dX10_rest_137 : decode cX10_rest 137 = .ok (.iconst 1, 1) := dk_4 (dk_at dksX10_rest_5 23 rfl rfl)
theorem dX10_rest_138 : decode cX10_rest 138 = .ok (.ireturn, 1) := dk_172 (dk_at dksX10_rest_6 0 rfl rfl)
abbrev cX10_cell : ByteArray := prog_6_method_6_code
def yX10_cell : MethodName := ⟨RX10, "cell", "()Z"⟩
def dkwX10_cell_1 : List UInt8 := [42, 5, 42, 3, 16, 7, 182, 0, 53, 182, 0, 56, 153, 0, 7, 4, 167, 0, 4, 3, 172]
abbrev dktX10_cell_1 : List UInt8 := dkwX10_cell_1 ++ []
def dkwX10_cell_0 : List UInt8 := [42, 4, 42, 3, 16, 7, 182, 0, 53, 182, 0, 56, 153, 0, 31, 42, 16, 46, 182, 0, 60, 153, 0, 22]
abbrev dktX10_cell_0 : List UInt8 := dkwX10_cell_0 ++ dktX10_cell_1
theorem dksX10_cell_0 : cX10_cell.data.toList.drop 0 = dktX10_cell_0 := by decide +kernel
theorem dksX10_cell_1 : cX10_cell.data.toList.drop 24 = dktX10_cell_1 := dk_seg dksX10_cell_0 24 rfl rfl
theorem dX10_cell_0 : decode cX10_cell 0 = .ok (.aload_n 0, 1) := dk_42 (dk_at dksX10_cell_0 0 rfl rfl)
theorem dX10_cell_1 : decode cX10_cell 1 = .ok (.iconst 1, 1) := dk_4 (dk_at dksX10_cell_0 1 rfl rfl)
theorem dX10_cell_2 : decode cX10_cell 2 = .ok (.aload_n 0, 1) := dk_42 (dk_at dksX10_cell_0 2 rfl rfl)
theorem dX10_cell_3 : decode cX10_cell 3 = .ok (.iconst 0, 1) := dk_3 (dk_at dksX10_cell_0 3 rfl rfl)
theorem dX10_cell_4 : decode cX10_cell 4 = .ok (.bipush 7, 2) := dk_16 7 (dk_at dksX10_cell_0 4 rfl rfl)
theorem dX10_cell_6 : decode cX10_cell 6 = .ok (.invokevirtual 53, 3) := dk_182 0 53 (dk_at dksX10_cell_0 6 rfl rfl)
theorem dX10_cell_9 : decode cX10_cell 9 = .ok (.invokevirtual 56, 3) := dk_182 0 56 (dk_at dksX10_cell_0 9 rfl rfl)
theorem dX10_cell_12 : decode cX10_cell 12 = .ok (.ifCond .eq 31, 3) := dk_153 0 31 (dk_at dksX10_cell_0 12 rfl rfl)
theorem dX10_cell_15 : decode cX10_cell 15 = .ok (.aload_n 0, 1) := dk_42 (dk_at dksX10_cell_0 15 rfl rfl)
theorem dX10_cell_16 : decode cX10_cell 16 = .ok (.bipush 46, 2) := dk_16 46 (dk_at dksX10_cell_0 16 rfl rfl)
theorem dX10_cell_18 : decode cX10_cell 18 = .ok (.invokevirtual 60, 3) := dk_182 0 60 (dk_at dksX10_cell_0 18 rfl rfl)
theorem dX10_cell_21 : decode cX10_cell 21 = .ok (.ifCond .eq 22, 3) := dk_153 0 22 (dk_at dksX10_cell_0 21 rfl rfl)
theorem dX10_cell_24 : decode cX10_cell 24 = .ok (.aload_n 0, 1) := dk_42 (dk_at dksX10_cell_1 0 rfl rfl)
theorem dX10_cell_25 : decode cX10_cell 25 = .ok (.iconst 2, 1) := dk_5 (dk_at dksX10_cell_1 1 rfl rfl)
theorem dX10_cell_26 : decode cX10_cell 26 = .ok (.aload_n 0, 1) := dk_42 (dk_at dksX10_cell_1 2 rfl rfl)
theorem dX10_cell_27 : decode cX10_cell 27 = .ok (.iconst 0, 1) := dk_3 (dk_at dksX10_cell_1 3 rfl rfl)
theorem dX10_cell_28 : decode cX10_cell 28 = .ok (.bipush 7, 2) := dk_16 7 (dk_at dksX10_cell_1 4 rfl rfl)
theorem dX10_cell_30 : decode cX10_cell 30 = .ok (.invokevirtual 53, 3) := dk_182 0 53 (dk_at dksX10_cell_1 6 rfl rfl)
theorem dX10_cell_33 : decode cX10_cell 33 = .ok (.invokevirtual 56, 3) := dk_182 0 56 (dk_at dksX10_cell_1 9 rfl rfl)
theorem dX10_cell_36 : decode cX10_cell 36 = .ok (.ifCond .eq 7, 3) := dk_153 0 7 (dk_at dksX10_cell_1 12 rfl rfl)
theorem dX10_cell_39 : decode cX10_cell 39 = .ok (.iconst 1, 1) := dk_4 (dk_at dksX10_cell_1 15 rfl rfl)
theorem dX10_cell_40 : decode cX10_cell 40 = .ok (.goto 4, 3) := dk_167 0 4 (dk_at dksX10_cell_1 16 rfl rfl)
theorem dX10_cell_43 : decode cX10_cell 43 = .ok (.iconst 0, 1) := dk_3 (dk_at dksX10_cell_1 19 rfl rfl)
theorem dX10_cell_44 : decode cX10_cell 44 = .ok (.ireturn, 1) := dk_172 (dk_at dksX10_cell_1 20 rfl rfl)
abbrev cX10_number : ByteArray := prog_6_method_4_code
def yX10_number : MethodName := ⟨RX10, "number", "(II)I"⟩
def dkwX10_number_3 : List UInt8 := [181, 0, 19, 167, 255, 187, 29, 172]
abbrev dktX10_number_3 : List UInt8 := dkwX10_number_3 ++ []
def dkwX10_number_2 : List UInt8 := [3, 29, 184, 0, 44, 104, 42, 182, 0, 37, 96, 16, 48, 100, 62, 42, 89, 180, 0, 19, 4, 96]
abbrev dktX10_number_2 : List UInt8 := dkwX10_number_2 ++ dktX10_number_3
def dkwX10_number_1 : List UInt8 := [3, 29, 184, 0, 44, 104, 42, 182, 0, 37, 96, 16, 48, 100, 27, 28, 184, 0, 40, 153, 0, 33, 16, 10]
abbrev dktX10_number_1 : List UInt8 := dkwX10_number_1 ++ dktX10_number_2
def dkwX10_number_0 : List UInt8 := [17, 252, 24, 62, 42, 182, 0, 37, 16, 48, 16, 57, 184, 0, 40, 153, 0, 61, 29, 153, 0, 57, 16, 10]
abbrev dktX10_number_0 : List UInt8 := dkwX10_number_0 ++ dktX10_number_1
theorem dksX10_number_0 : cX10_number.data.toList.drop 0 = dktX10_number_0 := by decide +kernel
theorem dksX10_number_1 : cX10_number.data.toList.drop 24 = dktX10_number_1 := dk_seg dksX10_number_0 24 rfl rfl
theorem dksX10_number_2 : cX10_number.data.toList.drop 48 = dktX10_number_2 := dk_seg dksX10_number_1 24 rfl rfl
theorem dksX10_number_3 : cX10_number.data.toList.drop 70 = dktX10_number_3 := dk_seg dksX10_number_2 22 rfl rfl
theorem dX10_number_0 : decode cX10_number 0 = .ok (.sipush (-1000), 3) := dk_17 252 24 (dk_at dksX10_number_0 0 rfl rfl)
theorem dX10_number_3 : decode cX10_number 3 = .ok (.istore_n 3, 1) := dk_62 (dk_at dksX10_number_0 3 rfl rfl)
theorem dX10_number_4 : decode cX10_number 4 = .ok (.aload_n 0, 1) := dk_42 (dk_at dksX10_number_0 4 rfl rfl)
theorem dX10_number_5 : decode cX10_number 5 = .ok (.invokevirtual 37, 3) := dk_182 0 37 (dk_at dksX10_number_0 5 rfl rfl)
theorem dX10_number_8 : decode cX10_number 8 = .ok (.bipush 48, 2) := dk_16 48 (dk_at dksX10_number_0 8 rfl rfl)
theorem dX10_number_10 : decode cX10_number 10 = .ok (.bipush 57, 2) := dk_16 57 (dk_at dksX10_number_0 10 rfl rfl)
theorem dX10_number_12 : decode cX10_number 12 = .ok (.invokestatic 40, 3) := dk_184 0 40 (dk_at dksX10_number_0 12 rfl rfl)
theorem dX10_number_15 : decode cX10_number 15 = .ok (.ifCond .eq 61, 3) := dk_153 0 61 (dk_at dksX10_number_0 15 rfl rfl)
theorem dX10_number_18 : decode cX10_number 18 = .ok (.iload_n 3, 1) := dk_29 (dk_at dksX10_number_0 18 rfl rfl)
theorem dX10_number_19 : decode cX10_number 19 = .ok (.ifCond .eq 57, 3) := dk_153 0 57 (dk_at dksX10_number_0 19 rfl rfl)
theorem dX10_number_22 : decode cX10_number 22 = .ok (.bipush 10, 2) := dk_16 10 (dk_at dksX10_number_0 22 rfl rfl)
theorem dX10_number_24 : decode cX10_number 24 = .ok (.iconst 0, 1) := dk_3 (dk_at dksX10_number_1 0 rfl rfl)
theorem dX10_number_25 : decode cX10_number 25 = .ok (.iload_n 3, 1) := dk_29 (dk_at dksX10_number_1 1 rfl rfl)
theorem dX10_number_26 : decode cX10_number 26 = .ok (.invokestatic 44, 3) := dk_184 0 44 (dk_at dksX10_number_1 2 rfl rfl)
theorem dX10_number_29 : decode cX10_number 29 = .ok (.imul, 1) := dk_104 (dk_at dksX10_number_1 5 rfl rfl)
theorem dX10_number_30 : decode cX10_number 30 = .ok (.aload_n 0, 1) := dk_42 (dk_at dksX10_number_1 6 rfl rfl)
theorem dX10_number_31 : decode cX10_number 31 = .ok (.invokevirtual 37, 3) := dk_182 0 37 (dk_at dksX10_number_1 7 rfl rfl)
theorem dX10_number_34 : decode cX10_number 34 = .ok (.iadd, 1) := dk_96 (dk_at dksX10_number_1 10 rfl rfl)
theorem dX10_number_35 : decode cX10_number 35 = .ok (.bipush 48, 2) := dk_16 48 (dk_at dksX10_number_1 11 rfl rfl)
theorem dX10_number_37 : decode cX10_number 37 = .ok (.isub, 1) := dk_100 (dk_at dksX10_number_1 13 rfl rfl)
theorem dX10_number_38 : decode cX10_number 38 = .ok (.iload_n 1, 1) := dk_27 (dk_at dksX10_number_1 14 rfl rfl)
theorem dX10_number_39 : decode cX10_number 39 = .ok (.iload_n 2, 1) := dk_28 (dk_at dksX10_number_1 15 rfl rfl)
theorem dX10_number_40 : decode cX10_number 40 = .ok (.invokestatic 40, 3) := dk_184 0 40 (dk_at dksX10_number_1 16 rfl rfl)
theorem dX10_number_43 : decode cX10_number 43 = .ok (.ifCond .eq 33, 3) := dk_153 0 33 (dk_at dksX10_number_1 19 rfl rfl)
theorem dX10_number_46 : decode cX10_number 46 = .ok (.bipush 10, 2) := dk_16 10 (dk_at dksX10_number_1 22 rfl rfl)
theorem dX10_number_48 : decode cX10_number 48 = .ok (.iconst 0, 1) := dk_3 (dk_at dksX10_number_2 0 rfl rfl)
theorem dX10_number_49 : decode cX10_number 49 = .ok (.iload_n 3, 1) := dk_29 (dk_at dksX10_number_2 1 rfl rfl)
theorem dX10_number_50 : decode cX10_number 50 = .ok (.invokestatic 44, 3) := dk_184 0 44 (dk_at dksX10_number_2 2 rfl rfl)
theorem dX10_number_53 : decode cX10_number 53 = .ok (.imul, 1) := dk_104 (dk_at dksX10_number_2 5 rfl rfl)
theorem dX10_number_54 : decode cX10_number 54 = .ok (.aload_n 0, 1) := dk_42 (dk_at dksX10_number_2 6 rfl rfl)
theorem dX10_number_55 : decode cX10_number 55 = .ok (.invokevirtual 37, 3) := dk_182 0 37 (dk_at dksX10_number_2 7 rfl rfl)
theorem dX10_number_58 : decode cX10_number 58 = .ok (.iadd, 1) := dk_96 (dk_at dksX10_number_2 10 rfl rfl)
theorem dX10_number_59 : decode cX10_number 59 = .ok (.bipush 48, 2) := dk_16 48 (dk_at dksX10_number_2 11 rfl rfl)
theorem dX10_number_61 : decode cX10_number 61 = .ok (.isub, 1) := dk_100 (dk_at dksX10_number_2 13 rfl rfl)
theorem dX10_number_62 : decode cX10_number 62 = .ok (.istore_n 3, 1) := dk_62 (dk_at dksX10_number_2 14 rfl rfl)
theorem dX10_number_63 : decode cX10_number 63 = .ok (.aload_n 0, 1) := dk_42 (dk_at dksX10_number_2 15 rfl rfl)
theorem dX10_number_64 : decode cX10_number 64 = .ok (.dup, 1) := dk_89 (dk_at dksX10_number_2 16 rfl rfl)
theorem dX10_number_65 : decode cX10_number 65 = .ok (.getfield 19, 3) := dk_180 0 19 (dk_at dksX10_number_2 17 rfl rfl)
theorem dX10_number_68 : decode cX10_number 68 = .ok (.iconst 1, 1) := dk_4 (dk_at dksX10_number_2 20 rfl rfl)
theorem dX10_number_69 : decode cX10_number 69 = .ok (.iadd, 1) := dk_96 (dk_at dksX10_number_2 21 rfl rfl)
theorem dX10_number_70 : decode cX10_number 70 = .ok (.putfield 19, 3) := dk_181 0 19 (dk_at dksX10_number_3 0 rfl rfl)
theorem dX10_number_73 : decode cX10_number 73 = .ok (.goto (-69), 3) := dk_167 255 187 (dk_at dksX10_number_3 3 rfl rfl)
theorem dX10_number_76 : decode cX10_number 76 = .ok (.iload_n 3, 1) := dk_29 (dk_at dksX10_number_3 6 rfl rfl)
theorem dX10_number_77 : decode cX10_number 77 = .ok (.ireturn, 1) := dk_172 (dk_at dksX10_number_3 7 rfl rfl)
abbrev cX10_put : ByteArray := prog_6_method_5_code
def yX10_put : MethodName := ⟨RX10, "put", "(II)Z"⟩
def dkwX10_put_1 : List UInt8 := [167, 0, 4, 3, 172]
abbrev dktX10_put_1 : List UInt8 := dkwX10_put_1 ++ []
def dkwX10_put_0 : List UInt8 := [42, 180, 0, 15, 7, 42, 180, 0, 50, 104, 27, 96, 28, 79, 28, 17, 252, 24, 159, 0, 7, 4]
abbrev dktX10_put_0 : List UInt8 := dkwX10_put_0 ++ dktX10_put_1
theorem dksX10_put_0 : cX10_put.data.toList.drop 0 = dktX10_put_0 := by decide +kernel
theorem dksX10_put_1 : cX10_put.data.toList.drop 22 = dktX10_put_1 := dk_seg dksX10_put_0 22 rfl rfl
theorem dX10_put_0 : decode cX10_put 0 = .ok (.aload_n 0, 1) := dk_42 (dk_at dksX10_put_0 0 rfl rfl)
theorem dX10_put_1 : decode cX10_put 1 = .ok (.getfield 15, 3) := dk_180 0 15 (dk_at dksX10_put_0 1 rfl rfl)
theorem dX10_put_4 : decode cX10_put 4 = .ok (.iconst 4, 1) := dk_7 (dk_at dksX10_put_0 4 rfl rfl)
theorem dX10_put_5 : decode cX10_put 5 = .ok (.aload_n 0, 1) := dk_42 (dk_at dksX10_put_0 5 rfl rfl)
theorem dX10_put_6 : decode cX10_put 6 = .ok (.getfield 50, 3) := dk_180 0 50 (dk_at dksX10_put_0 6 rfl rfl)
theorem dX10_put_9 : decode cX10_put 9 = .ok (.imul, 1) := dk_104 (dk_at dksX10_put_0 9 rfl rfl)
theorem dX10_put_10 : decode cX10_put 10 = .ok (.iload_n 1, 1) := dk_27 (dk_at dksX10_put_0 10 rfl rfl)
theorem dX10_put_11 : decode cX10_put 11 = .ok (.iadd, 1) := dk_96 (dk_at dksX10_put_0 11 rfl rfl)
theorem dX10_put_12 : decode cX10_put 12 = .ok (.iload_n 2, 1) := dk_28 (dk_at dksX10_put_0 12 rfl rfl)
theorem dX10_put_13 : decode cX10_put 13 = .ok (.iastore, 1) := dk_79 (dk_at dksX10_put_0 13 rfl rfl)
theorem dX10_put_14 : decode cX10_put 14 = .ok (.iload_n 2, 1) := dk_28 (dk_at dksX10_put_0 14 rfl rfl)
theorem dX10_put_15 : decode cX10_put 15 = .ok (.sipush (-1000), 3) := dk_17 252 24 (dk_at dksX10_put_0 15 rfl rfl)
theorem dX10_put_18 : decode cX10_put 18 = .ok (.if_icmp .eq 7, 3) := dk_159 0 7 (dk_at dksX10_put_0 18 rfl rfl)
theorem dX10_put_21 : decode cX10_put 21 = .ok (.iconst 1, 1) := dk_4 (dk_at dksX10_put_0 21 rfl rfl)
theorem dX10_put_22 : decode cX10_put 22 = .ok (.goto 4, 3) := dk_167 0 4 (dk_at dksX10_put_1 0 rfl rfl)
theorem dX10_put_25 : decode cX10_put 25 = .ok (.iconst 0, 1) := dk_3 (dk_at dksX10_put_1 3 rfl rfl)
theorem dX10_put_26 : decode cX10_put 26 = .ok (.ireturn, 1) := dk_172 (dk_at dksX10_put_1 4 rfl rfl)
abbrev cX10_takes : ByteArray := prog_6_method_3_code
def yX10_takes : MethodName := ⟨RX10, "takes", "(I)Z"⟩
def dkwX10_takes_1 : List UInt8 := [167, 0, 4, 3, 96, 181, 0, 19, 28, 172]
abbrev dktX10_takes_1 : List UInt8 := dkwX10_takes_1 ++ []
def dkwX10_takes_0 : List UInt8 := [42, 182, 0, 37, 27, 160, 0, 7, 4, 167, 0, 4, 3, 61, 42, 89, 180, 0, 19, 28, 153, 0, 7, 4]
abbrev dktX10_takes_0 : List UInt8 := dkwX10_takes_0 ++ dktX10_takes_1
theorem dksX10_takes_0 : cX10_takes.data.toList.drop 0 = dktX10_takes_0 := by decide +kernel
theorem dksX10_takes_1 : cX10_takes.data.toList.drop 24 = dktX10_takes_1 := dk_seg dksX10_takes_0 24 rfl rfl
theorem dX10_takes_0 : decode cX10_takes 0 = .ok (.aload_n 0, 1) := dk_42 (dk_at dksX10_takes_0 0 rfl rfl)
theorem dX10_takes_1 : decode cX10_takes 1 = .ok (.invokevirtual 37, 3) := dk_182 0 37 (dk_at dksX10_takes_0 1 rfl rfl)
theorem dX10_takes_4 : decode cX10_takes 4 = .ok (.iload_n 1, 1) := dk_27 (dk_at dksX10_takes_0 4 rfl rfl)
theorem dX10_takes_5 : decode cX10_takes 5 = .ok (.if_icmp .ne 7, 3) := dk_160 0 7 (dk_at dksX10_takes_0 5 rfl rfl)
theorem dX10_takes_8 : decode cX10_takes 8 = .ok (.iconst 1, 1) := dk_4 (dk_at dksX10_takes_0 8 rfl rfl)
theorem dX10_takes_9 : decode cX10_takes 9 = .ok (.goto 4, 3) := dk_167 0 4 (dk_at dksX10_takes_0 9 rfl rfl)
theorem dX10_takes_12 : decode cX10_takes 12 = .ok (.iconst 0, 1) := dk_3 (dk_at dksX10_takes_0 12 rfl rfl)
theorem dX10_takes_13 : decode cX10_takes 13 = .ok (.istore_n 2, 1) := dk_61 (dk_at dksX10_takes_0 13 rfl rfl)
theorem dX10_takes_14 : decode cX10_takes 14 = .ok (.aload_n 0, 1) := dk_42 (dk_at dksX10_takes_0 14 rfl rfl)
theorem dX10_takes_15 : decode cX10_takes 15 = .ok (.dup, 1) := dk_89 (dk_at dksX10_takes_0 15 rfl rfl)
theorem dX10_takes_16 : decode cX10_takes 16 = .ok (.getfield 19, 3) := dk_180 0 19 (dk_at dksX10_takes_0 16 rfl rfl)
theorem dX10_takes_19 : decode cX10_takes 19 = .ok (.iload_n 2, 1) := dk_28 (dk_at dksX10_takes_0 19 rfl rfl)
theorem dX10_takes_20 : decode cX10_takes 20 = .ok (.ifCond .eq 7, 3) := dk_153 0 7 (dk_at dksX10_takes_0 20 rfl rfl)
theorem dX10_takes_23 : decode cX10_takes 23 = .ok (.iconst 1, 1) := dk_4 (dk_at dksX10_takes_0 23 rfl rfl)
theorem dX10_takes_24 : decode cX10_takes 24 = .ok (.goto 4, 3) := dk_167 0 4 (dk_at dksX10_takes_1 0 rfl rfl)
theorem dX10_takes_27 : decode cX10_takes 27 = .ok (.iconst 0, 1) := dk_3 (dk_at dksX10_takes_1 3 rfl rfl)
theorem dX10_takes_28 : decode cX10_takes 28 = .ok (.iadd, 1) := dk_96 (dk_at dksX10_takes_1 4 rfl rfl)
theorem dX10_takes_29 : decode cX10_takes 29 = .ok (.putfield 19, 3) := dk_181 0 19 (dk_at dksX10_takes_1 5 rfl rfl)
theorem dX10_takes_32 : decode cX10_takes 32 = .ok (.iload_n 2, 1) := dk_28 (dk_at dksX10_takes_1 8 rfl rfl)
theorem dX10_takes_33 : decode cX10_takes 33 = .ok (.ireturn, 1) := dk_172 (dk_at dksX10_takes_1 9 rfl rfl)
abbrev cX10_difference : ByteArray := prog_6_method_7_code
def yX10_difference : MethodName := ⟨RX10, "difference", "()Z"⟩
def dkwX10_difference_1 : List UInt8 := [42, 6, 27, 153, 0, 15, 28, 17, 252, 24, 159, 0, 8, 28, 116, 167, 0, 4, 28, 182, 0, 56, 172]
abbrev dktX10_difference_1 : List UInt8 := dkwX10_difference_1 ++ []
def dkwX10_difference_0 : List UInt8 := [42, 16, 45, 182, 0, 60, 60, 42, 27, 153, 0, 7, 4, 167, 0, 4, 3, 17, 0, 255, 182, 0, 53, 61]
abbrev dktX10_difference_0 : List UInt8 := dkwX10_difference_0 ++ dktX10_difference_1
theorem dksX10_difference_0 : cX10_difference.data.toList.drop 0 = dktX10_difference_0 := by decide +kernel
theorem dksX10_difference_1 : cX10_difference.data.toList.drop 24 = dktX10_difference_1 := dk_seg dksX10_difference_0 24 rfl rfl
theorem dX10_difference_0 : decode cX10_difference 0 = .ok (.aload_n 0, 1) := dk_42 (dk_at dksX10_difference_0 0 rfl rfl)
theorem dX10_difference_1 : decode cX10_difference 1 = .ok (.bipush 45, 2) := dk_16 45 (dk_at dksX10_difference_0 1 rfl rfl)
theorem dX10_difference_3 : decode cX10_difference 3 = .ok (.invokevirtual 60, 3) := dk_182 0 60 (dk_at dksX10_difference_0 3 rfl rfl)
theorem dX10_difference_6 : decode cX10_difference 6 = .ok (.istore_n 1, 1) := dk_60 (dk_at dksX10_difference_0 6 rfl rfl)
theorem dX10_difference_7 : decode cX10_difference 7 = .ok (.aload_n 0, 1) := dk_42 (dk_at dksX10_difference_0 7 rfl rfl)
theorem dX10_difference_8 : decode cX10_difference 8 = .ok (.iload_n 1, 1) := dk_27 (dk_at dksX10_difference_0 8 rfl rfl)
theorem dX10_difference_9 : decode cX10_difference 9 = .ok (.ifCond .eq 7, 3) := dk_153 0 7 (dk_at dksX10_difference_0 9 rfl rfl)
theorem dX10_difference_12 : decode cX10_difference 12 = .ok (.iconst 1, 1) := dk_4 (dk_at dksX10_difference_0 12 rfl rfl)
theorem dX10_difference_13 : decode cX10_difference 13 = .ok (.goto 4, 3) := dk_167 0 4 (dk_at dksX10_difference_0 13 rfl rfl)
theorem dX10_difference_16 : decode cX10_difference 16 = .ok (.iconst 0, 1) := dk_3 (dk_at dksX10_difference_0 16 rfl rfl)
theorem dX10_difference_17 : decode cX10_difference 17 = .ok (.sipush 255, 3) := dk_17 0 255 (dk_at dksX10_difference_0 17 rfl rfl)
theorem dX10_difference_20 : decode cX10_difference 20 = .ok (.invokevirtual 53, 3) := dk_182 0 53 (dk_at dksX10_difference_0 20 rfl rfl)
theorem dX10_difference_23 : decode cX10_difference 23 = .ok (.istore_n 2, 1) := dk_61 (dk_at dksX10_difference_0 23 rfl rfl)
theorem dX10_difference_24 : decode cX10_difference 24 = .ok (.aload_n 0, 1) := dk_42 (dk_at dksX10_difference_1 0 rfl rfl)
theorem dX10_difference_25 : decode cX10_difference 25 = .ok (.iconst 3, 1) := dk_6 (dk_at dksX10_difference_1 1 rfl rfl)
theorem dX10_difference_26 : decode cX10_difference 26 = .ok (.iload_n 1, 1) := dk_27 (dk_at dksX10_difference_1 2 rfl rfl)
theorem dX10_difference_27 : decode cX10_difference 27 = .ok (.ifCond .eq 15, 3) := dk_153 0 15 (dk_at dksX10_difference_1 3 rfl rfl)
theorem dX10_difference_30 : decode cX10_difference 30 = .ok (.iload_n 2, 1) := dk_28 (dk_at dksX10_difference_1 6 rfl rfl)
theorem dX10_difference_31 : decode cX10_difference 31 = .ok (.sipush (-1000), 3) := dk_17 252 24 (dk_at dksX10_difference_1 7 rfl rfl)
theorem dX10_difference_34 : decode cX10_difference 34 = .ok (.if_icmp .eq 8, 3) := dk_159 0 8 (dk_at dksX10_difference_1 10 rfl rfl)
theorem dX10_difference_37 : decode cX10_difference 37 = .ok (.iload_n 2, 1) := dk_28 (dk_at dksX10_difference_1 13 rfl rfl)
theorem dX10_difference_38 : decode cX10_difference 38 = .ok (.ineg, 1) := dk_116 (dk_at dksX10_difference_1 14 rfl rfl)
theorem dX10_difference_39 : decode cX10_difference 39 = .ok (.goto 4, 3) := dk_167 0 4 (dk_at dksX10_difference_1 15 rfl rfl)
theorem dX10_difference_42 : decode cX10_difference 42 = .ok (.iload_n 2, 1) := dk_28 (dk_at dksX10_difference_1 18 rfl rfl)
theorem dX10_difference_43 : decode cX10_difference 43 = .ok (.invokevirtual 56, 3) := dk_182 0 56 (dk_at dksX10_difference_1 19 rfl rfl)
theorem dX10_difference_46 : decode cX10_difference 46 = .ok (.ireturn, 1) := dk_172 (dk_at dksX10_difference_1 22 rfl rfl)
theorem q142 : (Jvm.Cond.initialized "CrumbPictures$Reader") ∈ lw_all := lw_g (lw_at lw_m1 37 rfl) rfl
theorem q504 : (Jvm.Cond.fieldLinkNest "CrumbPictures$Reader" (23 : Nat) "CrumbPictures" "text" "Ljava/lang/StringBuilder;" "CrumbPictures") ∈ lw_tbl := lw_at lw_m2 159 rfl
theorem q603 : (Jvm.Cond.selects "CrumbPictures$Reader" ({ cls := "java/lang/Object", name := "getClass", desc := "()Ljava/lang/Class;" } : Jvm.MethodName) ({ cls := "java/lang/Object", name := "getClass", desc := "()Ljava/lang/Class;" } : Jvm.MethodName)) ∈ lw_all := lw_g (lw_at lw_m3 18 rfl) rfl
theorem q955 : (Jvm.Cond.instantiable "CrumbPictures$Reader" (4 : Nat)) ∈ lw_all := lw_g (lw_at lw_m4 130 rfl) rfl
theorem q957 : (Jvm.Cond.instanceMethod ({ cls := "CrumbPictures$Reader", name := "<init>", desc := "(LCrumbPictures;)V" } : Jvm.MethodName)) ∈ lw_all := lw_g (lw_at lw_m4 132 rfl) rfl
theorem q958 : (Jvm.Cond.code ({ cls := "CrumbPictures$Reader", name := "<init>", desc := "(LCrumbPictures;)V" } : Jvm.MethodName) prog_6_method_1_code (2 : Nat) (Option.none : Option Jvm.ClassFile.FieldType)) ∈ lw_all := lw_g (lw_at lw_m4 133 rfl) rfl
theorem q959 : (Jvm.Cond.methodLink "CrumbPictures$Reader" (9 : Nat) ({ cls := "java/lang/Object", name := "<init>", desc := "()V" } : Jvm.MethodName)) ∈ lw_all := lw_g (lw_at lw_m4 134 rfl) rfl
theorem q960 : (Jvm.Cond.fieldLink "CrumbPictures$Reader" (15 : Nat) "CrumbPictures$Reader" "found" "[I") ∈ lw_all := lw_g (lw_at lw_m4 135 rfl) rfl
theorem q962 : (Jvm.Cond.fieldLink "CrumbPictures$Reader" (50 : Nat) "CrumbPictures$Reader" "many" "I") ∈ lw_all := lw_g (lw_at lw_m4 137 rfl) rfl
theorem q964 : (Jvm.Cond.fieldLink "CrumbPictures$Reader" (19 : Nat) "CrumbPictures$Reader" "place" "I") ∈ lw_all := lw_g (lw_at lw_m4 139 rfl) rfl
theorem q966 : (Jvm.Cond.fieldLink "CrumbPictures$Reader" (3 : Nat) "CrumbPictures$Reader" "this$0" "LCrumbPictures;") ∈ lw_all := lw_g (lw_at lw_m4 141 rfl) rfl
theorem q967 : (Jvm.Cond.laysFinal "CrumbPictures$Reader" "CrumbPictures$Reader" "found" "[I") ∈ lw_all := lw_g (lw_at lw_m4 142 rfl) rfl
theorem q968 : (Jvm.Cond.soleField "CrumbPictures$Reader" "found") ∈ lw_all := lw_g (lw_at lw_m4 143 rfl) rfl
theorem q969 : (Jvm.Cond.lays "CrumbPictures$Reader" "CrumbPictures$Reader" "many" "I") ∈ lw_all := lw_g (lw_at lw_m4 144 rfl) rfl
theorem q970 : (Jvm.Cond.soleField "CrumbPictures$Reader" "many") ∈ lw_all := lw_g (lw_at lw_m4 145 rfl) rfl
theorem q971 : (Jvm.Cond.lays "CrumbPictures$Reader" "CrumbPictures$Reader" "place" "I") ∈ lw_all := lw_g (lw_at lw_m4 146 rfl) rfl
theorem q972 : (Jvm.Cond.soleField "CrumbPictures$Reader" "place") ∈ lw_all := lw_g (lw_at lw_m4 147 rfl) rfl
theorem q973 : (Jvm.Cond.laysFinal "CrumbPictures$Reader" "CrumbPictures$Reader" "this$0" "LCrumbPictures;") ∈ lw_all := lw_g (lw_at lw_m4 148 rfl) rfl
theorem q974 : (Jvm.Cond.soleField "CrumbPictures$Reader" "this$0") ∈ lw_all := lw_g (lw_at lw_m4 149 rfl) rfl
theorem q975 : (Jvm.Cond.superclass "CrumbPictures$Reader" "java/lang/Object") ∈ lw_all := lw_g (lw_at lw_m4 150 rfl) rfl
theorem q977 : (Jvm.Cond.instanceMethod ({ cls := "CrumbPictures$Reader", name := "areWorks", desc := "()Z" } : Jvm.MethodName)) ∈ lw_all := lw_g (lw_at lw_m4 152 rfl) rfl
theorem q978 : (Jvm.Cond.selects "CrumbPictures$Reader" ({ cls := "CrumbPictures$Reader", name := "areWorks", desc := "()Z" } : Jvm.MethodName) ({ cls := "CrumbPictures$Reader", name := "areWorks", desc := "()Z" } : Jvm.MethodName)) ∈ lw_all := lw_g (lw_at lw_m4 153 rfl) rfl
theorem q979 : (Jvm.Cond.code ({ cls := "CrumbPictures$Reader", name := "areWorks", desc := "()Z" } : Jvm.MethodName) prog_6_method_11_code (2 : Nat) (Option.some Jvm.ClassFile.FieldType.boolean)) ∈ lw_all := lw_g (lw_at lw_m4 154 rfl) rfl
theorem q980 : (Jvm.Cond.methodLink "CrumbPictures$Reader" (77 : Nat) ({ cls := "CrumbPictures$Reader", name := "part", desc := "()Z" } : Jvm.MethodName)) ∈ lw_all := lw_g (lw_at lw_m4 155 rfl) rfl
theorem q981 : (Jvm.Cond.privateMethod ({ cls := "CrumbPictures$Reader", name := "part", desc := "()Z" } : Jvm.MethodName)) ∈ lw_tbl := lw_at lw_m4 156 rfl
theorem q982 : (Jvm.Cond.instanceMethod ({ cls := "CrumbPictures$Reader", name := "part", desc := "()Z" } : Jvm.MethodName)) ∈ lw_all := lw_g (lw_at lw_m4 157 rfl) rfl
theorem q983 : (Jvm.Cond.code ({ cls := "CrumbPictures$Reader", name := "part", desc := "()Z" } : Jvm.MethodName) prog_6_method_10_code (4 : Nat) (Option.some Jvm.ClassFile.FieldType.boolean)) ∈ lw_all := lw_g (lw_at lw_m4 158 rfl) rfl
theorem q984 : (Jvm.Cond.methodLink "CrumbPictures$Reader" (37 : Nat) ({ cls := "CrumbPictures$Reader", name := "next", desc := "()I" } : Jvm.MethodName)) ∈ lw_all := lw_g (lw_at lw_m4 159 rfl) rfl
theorem q985 : (Jvm.Cond.privateMethod ({ cls := "CrumbPictures$Reader", name := "next", desc := "()I" } : Jvm.MethodName)) ∈ lw_tbl := lw_at lw_m4 160 rfl
theorem q986 : (Jvm.Cond.instanceMethod ({ cls := "CrumbPictures$Reader", name := "next", desc := "()I" } : Jvm.MethodName)) ∈ lw_all := lw_g (lw_at lw_m4 161 rfl) rfl
theorem q987 : (Jvm.Cond.code ({ cls := "CrumbPictures$Reader", name := "next", desc := "()I" } : Jvm.MethodName) prog_6_method_2_code (1 : Nat) (Option.some Jvm.ClassFile.FieldType.int)) ∈ lw_all := lw_g (lw_at lw_m4 162 rfl) rfl
theorem q988 : (Jvm.Cond.methodLink "CrumbPictures$Reader" (27 : Nat) ({ cls := "java/lang/StringBuilder", name := "length", desc := "()I" } : Jvm.MethodName)) ∈ lw_all := lw_g (lw_at lw_m4 163 rfl) rfl
theorem q989 : (Jvm.Cond.methodLink "CrumbPictures$Reader" (33 : Nat) ({ cls := "java/lang/StringBuilder", name := "charAt", desc := "(I)C" } : Jvm.MethodName)) ∈ lw_all := lw_g (lw_at lw_m4 164 rfl) rfl
theorem q1002 : (Jvm.Cond.methodLink "CrumbPictures$Reader" (71 : Nat) ({ cls := "CrumbPictures$Reader", name := "isSign", desc := "(I)Z" } : Jvm.MethodName)) ∈ lw_all := lw_g (lw_at lw_m4 177 rfl) rfl
theorem q1003 : (Jvm.Cond.privateMethod ({ cls := "CrumbPictures$Reader", name := "isSign", desc := "(I)Z" } : Jvm.MethodName)) ∈ lw_tbl := lw_at lw_m4 178 rfl
theorem q1004 : (Jvm.Cond.instanceMethod ({ cls := "CrumbPictures$Reader", name := "isSign", desc := "(I)Z" } : Jvm.MethodName)) ∈ lw_all := lw_g (lw_at lw_m4 179 rfl) rfl
theorem q1005 : (Jvm.Cond.code ({ cls := "CrumbPictures$Reader", name := "isSign", desc := "(I)Z" } : Jvm.MethodName) prog_6_method_9_code (3 : Nat) (Option.some Jvm.ClassFile.FieldType.boolean)) ∈ lw_all := lw_g (lw_at lw_m4 180 rfl) rfl
theorem q1006 : (Jvm.Cond.methodLink "CrumbPictures$Reader" (74 : Nat) ({ cls := "CrumbPictures$Reader", name := "rest", desc := "(I)Z" } : Jvm.MethodName)) ∈ lw_all := lw_g (lw_at lw_m4 181 rfl) rfl
theorem q1007 : (Jvm.Cond.privateMethod ({ cls := "CrumbPictures$Reader", name := "rest", desc := "(I)Z" } : Jvm.MethodName)) ∈ lw_tbl := lw_at lw_m4 182 rfl
theorem q1008 : (Jvm.Cond.instanceMethod ({ cls := "CrumbPictures$Reader", name := "rest", desc := "(I)Z" } : Jvm.MethodName)) ∈ lw_all := lw_g (lw_at lw_m4 183 rfl) rfl
theorem q1009 : (Jvm.Cond.code ({ cls := "CrumbPictures$Reader", name := "rest", desc := "(I)Z" } : Jvm.MethodName) prog_6_method_8_code (2 : Nat) (Option.some Jvm.ClassFile.FieldType.boolean)) ∈ lw_all := lw_g (lw_at lw_m4 184 rfl) rfl
theorem q1010 : (Jvm.Cond.methodLink "CrumbPictures$Reader" (64 : Nat) ({ cls := "CrumbPictures$Reader", name := "cell", desc := "()Z" } : Jvm.MethodName)) ∈ lw_all := lw_g (lw_at lw_m4 185 rfl) rfl
theorem q1011 : (Jvm.Cond.privateMethod ({ cls := "CrumbPictures$Reader", name := "cell", desc := "()Z" } : Jvm.MethodName)) ∈ lw_tbl := lw_at lw_m4 186 rfl
theorem q1012 : (Jvm.Cond.instanceMethod ({ cls := "CrumbPictures$Reader", name := "cell", desc := "()Z" } : Jvm.MethodName)) ∈ lw_all := lw_g (lw_at lw_m4 187 rfl) rfl
theorem q1013 : (Jvm.Cond.code ({ cls := "CrumbPictures$Reader", name := "cell", desc := "()Z" } : Jvm.MethodName) prog_6_method_6_code (1 : Nat) (Option.some Jvm.ClassFile.FieldType.boolean)) ∈ lw_all := lw_g (lw_at lw_m4 188 rfl) rfl
theorem q1014 : (Jvm.Cond.methodLink "CrumbPictures$Reader" (53 : Nat) ({ cls := "CrumbPictures$Reader", name := "number", desc := "(II)I" } : Jvm.MethodName)) ∈ lw_all := lw_g (lw_at lw_m4 189 rfl) rfl
theorem q1015 : (Jvm.Cond.privateMethod ({ cls := "CrumbPictures$Reader", name := "number", desc := "(II)I" } : Jvm.MethodName)) ∈ lw_tbl := lw_at lw_m4 190 rfl
theorem q1016 : (Jvm.Cond.instanceMethod ({ cls := "CrumbPictures$Reader", name := "number", desc := "(II)I" } : Jvm.MethodName)) ∈ lw_all := lw_g (lw_at lw_m4 191 rfl) rfl
theorem q1017 : (Jvm.Cond.code ({ cls := "CrumbPictures$Reader", name := "number", desc := "(II)I" } : Jvm.MethodName) prog_6_method_4_code (4 : Nat) (Option.some Jvm.ClassFile.FieldType.int)) ∈ lw_all := lw_g (lw_at lw_m4 192 rfl) rfl
theorem q1018 : (Jvm.Cond.methodLinkNest "CrumbPictures$Reader" (40 : Nat) ({ cls := "CrumbPictures", name := "in", desc := "(III)Z" } : Jvm.MethodName) "CrumbPictures") ∈ lw_tbl := lw_at lw_m4 193 rfl
theorem q1021 : (Jvm.Cond.methodLink "CrumbPictures$Reader" (44 : Nat) ({ cls := "java/lang/Math", name := "max", desc := "(II)I" } : Jvm.MethodName)) ∈ lw_all := lw_g (lw_at lw_m4 196 rfl) rfl
theorem q1022 : (Jvm.Cond.methodLink "CrumbPictures$Reader" (56 : Nat) ({ cls := "CrumbPictures$Reader", name := "put", desc := "(II)Z" } : Jvm.MethodName)) ∈ lw_all := lw_g (lw_at lw_m4 197 rfl) rfl
theorem q1023 : (Jvm.Cond.privateMethod ({ cls := "CrumbPictures$Reader", name := "put", desc := "(II)Z" } : Jvm.MethodName)) ∈ lw_tbl := lw_at lw_m4 198 rfl
theorem q1024 : (Jvm.Cond.instanceMethod ({ cls := "CrumbPictures$Reader", name := "put", desc := "(II)Z" } : Jvm.MethodName)) ∈ lw_all := lw_g (lw_at lw_m4 199 rfl) rfl
theorem q1025 : (Jvm.Cond.code ({ cls := "CrumbPictures$Reader", name := "put", desc := "(II)Z" } : Jvm.MethodName) prog_6_method_5_code (3 : Nat) (Option.some Jvm.ClassFile.FieldType.boolean)) ∈ lw_all := lw_g (lw_at lw_m4 200 rfl) rfl
theorem q1026 : (Jvm.Cond.methodLink "CrumbPictures$Reader" (60 : Nat) ({ cls := "CrumbPictures$Reader", name := "takes", desc := "(I)Z" } : Jvm.MethodName)) ∈ lw_all := lw_g (lw_at lw_m4 201 rfl) rfl
theorem q1027 : (Jvm.Cond.privateMethod ({ cls := "CrumbPictures$Reader", name := "takes", desc := "(I)Z" } : Jvm.MethodName)) ∈ lw_tbl := lw_at lw_m4 202 rfl
theorem q1028 : (Jvm.Cond.instanceMethod ({ cls := "CrumbPictures$Reader", name := "takes", desc := "(I)Z" } : Jvm.MethodName)) ∈ lw_all := lw_g (lw_at lw_m4 203 rfl) rfl
theorem q1029 : (Jvm.Cond.code ({ cls := "CrumbPictures$Reader", name := "takes", desc := "(I)Z" } : Jvm.MethodName) prog_6_method_3_code (3 : Nat) (Option.some Jvm.ClassFile.FieldType.boolean)) ∈ lw_all := lw_g (lw_at lw_m4 204 rfl) rfl
theorem q1030 : (Jvm.Cond.methodLink "CrumbPictures$Reader" (68 : Nat) ({ cls := "CrumbPictures$Reader", name := "difference", desc := "()Z" } : Jvm.MethodName)) ∈ lw_all := lw_g (lw_at lw_m4 205 rfl) rfl
theorem q1031 : (Jvm.Cond.privateMethod ({ cls := "CrumbPictures$Reader", name := "difference", desc := "()Z" } : Jvm.MethodName)) ∈ lw_tbl := lw_at lw_m4 206 rfl
theorem q1032 : (Jvm.Cond.instanceMethod ({ cls := "CrumbPictures$Reader", name := "difference", desc := "()Z" } : Jvm.MethodName)) ∈ lw_all := lw_g (lw_at lw_m4 207 rfl) rfl
theorem q1033 : (Jvm.Cond.code ({ cls := "CrumbPictures$Reader", name := "difference", desc := "()Z" } : Jvm.MethodName) prog_6_method_7_code (3 : Nat) (Option.some Jvm.ClassFile.FieldType.boolean)) ∈ lw_all := lw_g (lw_at lw_m4 208 rfl) rfl
theorem q2172 : (Jvm.Cond.castable "CrumbPictures$Reader" "java/lang/Object") ∈ lw_tbl := lw_at lw_m9 147 rfl
theorem in_X10 : ∀ w ∈ wsX100, w ∈ lw_all := lw_in wsX100 [967, 969, 971, 973] (by decide +kernel) (by decide +kernel)
