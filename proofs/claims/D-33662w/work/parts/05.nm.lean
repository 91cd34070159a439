/-! CrumbPicturesModel -/
set_option maxRecDepth 100000
def RX9 : String := "CrumbPicturesModel"
def TX9 : u_T := fun k => match k with
  | 0 => ("CrumbPicturesModel", "thrown", "I", false)
  | 1 => ("CrumbPicturesModel", "state", "[I", true)
  | 2 => ("CrumbPicturesModel", "history", "[I", true)
  | 3 => ("CrumbPicturesModel", "states", "I", false)
  | 4 => ("CrumbPicturesModel", "snapshot", "[I", true)
  | 5 => ("CrumbPicturesModel", "hasSnapshot", "Z", false)
  | 6 => ("CrumbPicturesModel", "text", "[I", true)
  | 7 => ("CrumbPicturesModel", "length", "I", false)
  | 8 => ("CrumbPicturesModel", "parts", "[I", true)
  | 9 => ("CrumbPicturesModel", "back", "[I", true)
  | 10 => ("CrumbPicturesModel", "line", "[I", true)
  | 11 => ("CrumbPicturesModel", "order", "[I", true)
  | 12 => ("CrumbPicturesModel", "others", "[I", true)
  | 13 => ("CrumbPicturesModel", "thresholds", "[I", true)
  | 14 => ("CrumbPicturesModel", "at", "I", false)
  | 15 => ("CrumbPicturesModel", "number", "I", false)
  | 16 => ("CrumbPicturesModel", "many", "I", false)
  | 17 => ("CrumbPicturesModel", "letter", "[I", true)
  | 18 => ("CrumbPicturesModel", "first", "[I", true)
  | 19 => ("CrumbPicturesModel", "second", "[I", true)
  | _ => ("CrumbPicturesModel", "third", "[I", true)
def tyX9 : Nat → FieldType := fun k => match k with
  | 0 => .int
  | 1 => .array .int
  | 2 => .array .int
  | 3 => .int
  | 4 => .array .int
  | 5 => .boolean
  | 6 => .array .int
  | 7 => .int
  | 8 => .array .int
  | 9 => .array .int
  | 10 => .array .int
  | 11 => .array .int
  | 12 => .array .int
  | 13 => .array .int
  | 14 => .int
  | 15 => .int
  | 16 => .int
  | 17 => .array .int
  | 18 => .array .int
  | 19 => .array .int
  | _ => .array .int
abbrev wsX90 : List Cond := u_ws RX9 TX9 21
set_option maxRecDepth 100000 in
theorem nmX9 : ∀ a, a < 21 → ∀ b, b < 21 → a ≠ b → (TX9 a).2.1 ≠ (TX9 b).2.1 := by decide +kernel
set_option maxRecDepth 100000 in
theorem tyX9_ok : ∀ k, k < 21 → parseFieldDescriptor (TX9 k).2.2.1 = some (tyX9 k) := by decide +kernel
abbrev cX9_init : ByteArray := prog_11_method_1_code
def yX9_init : MethodName := ⟨RX9, "<init>", "()V"⟩
def dkwX9_init_6 : List UInt8 := [120, 79, 132, 1, 1, 167, 255, 236, 177]
abbrev dktX9_init_6 : List UInt8 := dkwX9_init_6 ++ []
def dkwX9_init_5 : List UInt8 := [180, 0, 7, 16, 64, 6, 79, 4, 60, 27, 16, 9, 162, 0, 20, 42, 180, 0, 37, 27, 4, 27, 4, 100]
abbrev dktX9_init_5 : List UInt8 := dkwX9_init_5 ++ dktX9_init_6
def dkwX9_init_4 : List UInt8 := [188, 10, 181, 0, 43, 42, 16, 31, 188, 10, 181, 0, 46, 42, 16, 31, 188, 10, 181, 0, 49, 42]
abbrev dktX9_init_4 : List UInt8 := dkwX9_init_4 ++ dktX9_init_5
def dkwX9_init_3 : List UInt8 := [188, 10, 181, 0, 34, 42, 16, 9, 188, 10, 181, 0, 37, 42, 16, 31, 188, 10, 181, 0, 40, 42, 16, 31]
abbrev dktX9_init_3 : List UInt8 := dkwX9_init_3 ++ dktX9_init_4
def dkwX9_init_2 : List UInt8 := [188, 10, 181, 0, 25, 42, 16, 8, 188, 10, 181, 0, 28, 42, 16, 64, 188, 10, 181, 0, 31, 42, 16, 64]
abbrev dktX9_init_2 : List UInt8 := dkwX9_init_2 ++ dktX9_init_3
def dkwX9_init_1 : List UInt8 := [188, 10, 181, 0, 16, 42, 16, 60, 188, 10, 181, 0, 19, 42, 16, 64, 188, 10, 181, 0, 22, 42, 16, 64]
abbrev dktX9_init_1 : List UInt8 := dkwX9_init_1 ++ dktX9_init_2
def dkwX9_init_0 : List UInt8 := [42, 183, 0, 1, 42, 16, 68, 188, 10, 181, 0, 7, 42, 17, 1, 152, 188, 10, 181, 0, 13, 42, 16, 68]
abbrev dktX9_init_0 : List UInt8 := dkwX9_init_0 ++ dktX9_init_1
theorem dksX9_init_0 : cX9_init.data.toList.drop 0 = dktX9_init_0 := by decide +kernel
theorem dksX9_init_1 : cX9_init.data.toList.drop 24 = dktX9_init_1 := dk_seg dksX9_init_0 24 rfl rfl
theorem dksX9_init_2 : cX9_init.data.toList.drop 48 = dktX9_init_2 := dk_seg dksX9_init_1 24 rfl rfl
theorem dksX9_init_3 : cX9_init.data.toList.drop 72 = dktX9_init_3 := dk_seg dksX9_init_2 24 rfl rfl
theorem dksX9_init_4 : cX9_init.data.toList.drop 96 = dktX9_init_4 := dk_seg dksX9_init_3 24 rfl rfl
theorem dksX9_init_5 : cX9_init.data.toList.drop 118 = dktX9_init_5 := dk_seg dksX9_init_4 22 rfl rfl
theorem dksX9_init_6 : cX9_init.data.toList.drop 142 = dktX9_init_6 := dk_seg dksX9_init_5 24 rfl rfl
theorem dX9_init_0 : decode cX9_init 0 = .ok (.aload_n 0, 1) := dk_42 (dk_at dksX9_init_0 0 rfl rfl)
theorem dX9_init_1 : decode cX9_init 1 = .ok (.invokespecial 1, 3) := dk_183 0 1 (dk_at dksX9_init_0 1 rfl rfl)
theorem dX9_init_4 : decode cX9_init 4 = .ok (.aload_n 0, 1) := dk_42 (dk_at dksX9_init_0 4 rfl rfl)
theorem dX9_init_5 : decode cX9_init 5 = .ok (.bipush 68, 2) := dk_16 68 (dk_at dksX9_init_0 5 rfl rfl)
theorem dX9_init_7 : decode cX9_init 7 = .ok (.newarray .int, 2) := dk_188_10 (dk_at dksX9_init_0 7 rfl rfl)
theorem dX9_init_9 : decode cX9_init 9 = .ok (.putfield 7, 3) := dk_181 0 7 (dk_at dksX9_init_0 9 rfl rfl)
theorem dX9_init_12 : decode cX9_init 12 = .ok (.aload_n 0, 1) := dk_42 (dk_at dksX9_init_0 12 rfl rfl)
theorem dX9_init_13 : decode cX9_init 13 = .ok (.sipush 408, 3) := dk_17 1 152 (dk_at dksX9_init_0 13 rfl rfl)
theorem dX9_init_16 : decode cX9_init 16 = .ok (.newarray .int, 2) := dk_188_10 (dk_at dksX9_init_0 16 rfl rfl)
theorem dX9_init_18 : decode cX9_init 18 = .ok (.putfield 13, 3) := dk_181 0 13 (dk_at dksX9_init_0 18 rfl rfl)
theorem dX9_init_21 : decode cX9_init 21 = .ok (.aload_n 0, 1) := dk_42 (dk_at dksX9_init_0 21 rfl rfl)
theorem dX9_init_22 : decode cX9_init 22 = .ok (.bipush 68, 2) := dk_16 68 (dk_at dksX9_init_0 22 rfl rfl)
theorem dX9_init_24 : decode cX9_init 24 = .ok (.newarray .int, 2) := dk_188_10 (dk_at dksX9_init_1 0 rfl rfl)
theorem dX9_init_26 : decode cX9_init 26 = .ok (.putfield 16, 3) := dk_181 0 16 (dk_at dksX9_init_1 2 rfl rfl)
theorem dX9_init_29 : decode cX9_init 29 = .ok (.aload_n 0, 1) := dk_42 (dk_at dksX9_init_1 5 rfl rfl)
theorem dX9_init_30 : decode cX9_init 30 = .ok (.bipush 60, 2) := dk_16 60 (dk_at dksX9_init_1 6 rfl rfl)
theorem dX9_init_32 : decode cX9_init 32 = .ok (.newarray .int, 2) := dk_188_10 (dk_at dksX9_init_1 8 rfl rfl)
theorem dX9_init_34 : decode cX9_init 34 = .ok (.putfield 19, 3) := dk_181 0 19 (dk_at dksX9_init_1 10 rfl rfl)
theorem dX9_init_37 : decode cX9_init 37 = .ok (.aload_n 0, 1) := dk_42 (dk_at dksX9_init_1 13 rfl rfl)
theorem dX9_init_38 : decode cX9_init 38 = .ok (.bipush 64, 2) := dk_16 64 (dk_at dksX9_init_1 14 rfl rfl)
theorem dX9_init_40 : decode cX9_init 40 = .ok (.newarray .int, 2) := dk_188_10 (dk_at dksX9_init_1 16 rfl rfl)
theorem dX9_init_42 : decode cX9_init 42 = .ok (.putfield 22, 3) := dk_181 0 22 (dk_at dksX9_init_1 18 rfl rfl)
theorem dX9_init_45 : decode cX9_init 45 = .ok (.aload_n 0, 1) := dk_42 (dk_at dksX9_init_1 21 rfl rfl)
theorem dX9_init_46 : decode cX9_init 46 = .ok (.bipush 64, 2) := dk_16 64 (dk_at dksX9_init_1 22 rfl rfl)
theorem dX9_init_48 : decode cX9_init 48 = .ok (.newarray .int, 2) := dk_188_10 (dk_at dksX9_init_2 0 rfl rfl)
theorem dX9_init_50 : decode cX9_init 50 = .ok (.putfield 25, 3) := dk_181 0 25 (dk_at dksX9_init_2 2 rfl rfl)
theorem dX9_init_53 : decode cX9_init 53 = .ok (.aload_n 0, 1) := dk_42 (dk_at dksX9_init_2 5 rfl rfl)
theorem dX9_init_54 : decode cX9_init 54 = .ok (.bipush 8, 2) := dk_16 8 (dk_at dksX9_init_2 6 rfl rfl)
theorem dX9_init_56 : decode cX9_init 56 = .ok (.newarray .int, 2) := dk_188_10 (dk_at dksX9_init_2 8 rfl rfl)
theorem dX9_init_58 : decode cX9_init 58 = .ok (.putfield 28, 3) := dk_181 0 28 (dk_at dksX9_init_2 10 rfl rfl)
theorem dX9_init_61 : decode cX9_init 61 = .ok (.aload_n 0, 1) := dk_42 (dk_at dksX9_init_2 13 rfl rfl)
theorem dX9_init_62 : decode cX9_init 62 = .ok (.bipush 64, 2) := dk_16 64 (dk_at dksX9_init_2 14 rfl rfl)
theorem dX9_init_64 : decode cX9_init 64 = .ok (.newarray .int, 2) := dk_188_10 (dk_at dksX9_init_2 16 rfl rfl)
theorem dX9_init_66 : decode cX9_init 66 = .ok (.putfield 31, 3) := dk_181 0 31 (dk_at dksX9_init_2 18 rfl rfl)
theorem dX9_init_69 : decode cX9_init 69 = .ok (.aload_n 0, 1) := dk_42 (dk_at dksX9_init_2 21 rfl rfl)
theorem dX9_init_70 : decode cX9_init 70 = .ok (.bipush 64, 2) := dk_16 64 (dk_at dksX9_init_2 22 rfl rfl)
theorem dX9_init_72 : decode cX9_init 72 = .ok (.newarray .int, 2) := dk_188_10 (dk_at dksX9_init_3 0 rfl rfl)
theorem dX9_init_74 : decode cX9_init 74 = .ok (.putfield 34, 3) := dk_181 0 34 (dk_at dksX9_init_3 2 rfl rfl)
theorem dX9_init_77 : decode cX9_init 77 = .ok (.aload_n 0, 1) := dk_42 (dk_at dksX9_init_3 5 rfl rfl)
theorem dX9_init_78 : decode cX9_init 78 = .ok (.bipush 9, 2) := dk_16 9 (dk_at dksX9_init_3 6 rfl rfl)
theorem dX9_init_80 : decode cX9_init 80 = .ok (.newarray .int, 2) := dk_188_10 (dk_at dksX9_init_3 8 rfl rfl)
theorem dX9_init_82 : decode cX9_init 82 = .ok (.putfield 37, 3) := dk_181 0 37 (dk_at dksX9_init_3 10 rfl rfl)
theorem dX9_init_85 : decode cX9_init 85 = .ok (.aload_n 0, 1) := dk_42 (dk_at dksX9_init_3 13 rfl rfl)
theorem dX9_init_86 : decode cX9_init 86 = .ok (.bipush 31, 2) := dk_16 31 (dk_at dksX9_init_3 14 rfl rfl)
theorem dX9_init_88 : decode cX9_init 88 = .ok (.newarray .int, 2) := dk_188_10 (dk_at dksX9_init_3 16 rfl rfl)
theorem dX9_init_90 : decode cX9_init 90 = .ok (.putfield 40, 3) := dk_181 0 40 (dk_at dksX9_init_3 18 rfl rfl)
theorem dX9_init_93 : decode cX9_init 93 = .ok (.aload_n 0, 1) := dk_42 (dk_at dksX9_init_3 21 rfl rfl)
theorem dX9_init_94 : decode cX9_init 94 = .ok (.bipush 31, 2) := dk_16 31 (dk_at dksX9_init_3 22 rfl rfl)
theorem dX9_init_96 : decode cX9_init 96 = .ok (.newarray .int, 2) := dk_188_10 (dk_at dksX9_init_4 0 rfl rfl)
theorem dX9_init_98 : decode cX9_init 98 = .ok (.putfield 43, 3) := dk_181 0 43 (dk_at dksX9_init_4 2 rfl rfl)
theorem dX9_init_101 : decode cX9_init 101 = .ok (.aload_n 0, 1) := dk_42 (dk_at dksX9_init_4 5 rfl rfl)
theorem dX9_init_102 : decode cX9_init 102 = .ok (.bipush 31, 2) := dk_16 31 (dk_at dksX9_init_4 6 rfl rfl)
theorem dX9_init_104 : decode cX9_init 104 = .ok (.newarray .int, 2) := dk_188_10 (dk_at dksX9_init_4 8 rfl rfl)
theorem dX9_init_106 : decode cX9_init 106 = .ok (.putfield 46, 3) := dk_181 0 46 (dk_at dksX9_init_4 10 rfl rfl)
theorem dX9_init_109 : decode cX9_init 109 = .ok (.aload_n 0, 1) := dk_42 (dk_at dksX9_init_4 13 rfl rfl)
theorem dX9_init_110 : decode cX9_init 110 = .ok (.bipush 31, 2) := dk_16 31 (dk_at dksX9_init_4 14 rfl rfl)
theorem dX9_init_112 : decode cX9_init 112 = .ok (.newarray .int, 2) := dk_188_10 (dk_at dksX9_init_4 16 rfl rfl)
theorem dX9_init_114 : decode cX9_init 114 = .ok (.putfield 49, 3) := dk_181 0 49 (dk_at dksX9_init_4 18 rfl rfl)
theorem dX9_init_117 : decode cX9_init 117 = .ok (.aload_n 0, 1) := dk_42 (dk_at dksX9_init_4 21 rfl rfl)
theorem dX9_init_118 : decode cX9_init 118 = .ok (.getfield 7, 3) := dk_180 0 7 (dk_at dksX9_init_5 0 rfl rfl)
theorem dX9_init_121 : decode cX9_init 121 = .ok (.bipush 64, 2) := dk_16 64 (dk_at dksX9_init_5 3 rfl rfl)
theorem dX9_init_123 : decode cX9_init 123 = .ok (.iconst 3, 1) := dk_6 (dk_at dksX9_init_5 5 rfl rfl)
theorem dX9_init_124 : decode cX9_init 124 = .ok (.iastore, 1) := dk_79 (dk_at dksX9_init_5 6 rfl rfl)
theorem dX9_init_125 : decode cX9_init 125 = .ok (.iconst 1, 1) := dk_4 (dk_at dksX9_init_5 7 rfl rfl)
theorem dX9_init_126 : decode cX9_init 126 = .ok (.istore_n 1, 1) := dk_60 (dk_at dksX9_init_5 8 rfl rfl)
theorem dX9_init_127 : decode cX9_init 127 = .ok (.iload_n 1, 1) := dk_27 (dk_at dksX9_init_5 9 rfl rfl)
theorem dX9_init_128 : decode cX9_init 128 = .ok (.bipush 9, 2) := dk_16 9 (dk_at dksX9_init_5 10 rfl rfl)
theorem dX9_init_130 : decode cX9_init 130 = .ok (.if_icmp .ge 20, 3) := dk_162 0 20 (dk_at dksX9_init_5 12 rfl rfl)
theorem dX9_init_133 : decode cX9_init 133 = .ok (.aload_n 0, 1) := dk_42 (dk_at dksX9_init_5 15 rfl rfl)
theorem dX9_init_134 : decode cX9_init 134 = .ok (.getfield 37, 3) := dk_180 0 37 (dk_at dksX9_init_5 16 rfl rfl)
theorem dX9_init_137 : decode cX9_init 137 = .ok (.iload_n 1, 1) := dk_27 (dk_at dksX9_init_5 19 rfl rfl)
theorem dX9_init_138 : decode cX9_init 138 = .ok (.iconst 1, 1) := dk_4 (dk_at dksX9_init_5 20 rfl rfl)
theorem dX9_init_139 : decode cX9_init 139 = .ok (.iload_n 1, 1) := dk_27 (dk_at dksX9_init_5 21 rfl rfl)
theorem dX9_init_140 : decode cX9_init 140 = .ok (.iconst 1, 1) := dk_4 (dk_at dksX9_init_5 22 rfl rfl)
theorem dX9_init_141 : decode cX9_init 141 = .ok (.isub, 1) := dk_100 (dk_at dksX9_init_5 23 rfl rfl)
theorem dX9_init_142 : decode cX9_init 142 = .ok (.ishl, 1) := dk_120 (dk_at dksX9_init_6 0 rfl rfl)
theorem dX9_init_143 : decode cX9_init 143 = .ok (.iastore, 1) := dk_79 (dk_at dksX9_init_6 1 rfl rfl)
theorem dX9_init_144 : decode cX9_init 144 = .ok (.iinc 1 1, 3) := dk_132 1 1 (dk_at dksX9_init_6 2 rfl rfl)
theorem dX9_init_147 : decode cX9_init 147 = .ok (.goto (-20), 3) := dk_167 255 236 (dk_at dksX9_init_6 5 rfl rfl)
theorem dX9_init_150 : decode cX9_init 150 = .ok (.return_, 1) := dk_177 (dk_at dksX9_init_6 8 rfl rfl)
abbrev cX9_thrown : ByteArray := prog_11_method_2_code
def yX9_thrown : MethodName := ⟨RX9, "thrown", "()I"⟩
theorem dX9_thrown_0 : decode cX9_thrown 0 = .ok (.aload_n 0, 1) := by decide +kernel
theorem dX9_thrown_1 : decode cX9_thrown 1 = .ok (.getfield 52, 3) := by decide +kernel
theorem dX9_thrown_4 : decode cX9_thrown 4 = .ok (.ireturn, 1) := by decide +kernel
abbrev cX9_undo : ByteArray := prog_11_method_10_code
def yX9_undo : MethodName := ⟨RX9, "undo", "()I"⟩
def dkwX9_undo_2 : List UInt8 := [180, 0, 60, 16, 68, 104, 27, 96, 46, 79, 132, 1, 1, 167, 255, 227, 42, 180, 0, 60, 172]
abbrev dktX9_undo_2 : List UInt8 := dkwX9_undo_2 ++ []
def dkwX9_undo_1 : List UInt8 := [100, 181, 0, 60, 3, 60, 27, 16, 68, 162, 0, 29, 42, 180, 0, 7, 27, 42, 180, 0, 13, 42]
abbrev dktX9_undo_1 : List UInt8 := dkwX9_undo_1 ++ dktX9_undo_2
def dkwX9_undo_0 : List UInt8 := [42, 3, 181, 0, 52, 42, 180, 0, 60, 154, 0, 9, 42, 4, 182, 0, 63, 172, 42, 89, 180, 0, 60, 4]
abbrev dktX9_undo_0 : List UInt8 := dkwX9_undo_0 ++ dktX9_undo_1
theorem dksX9_undo_0 : cX9_undo.data.toList.drop 0 = dktX9_undo_0 := by decide +kernel
theorem dksX9_undo_1 : cX9_undo.data.toList.drop 24 = dktX9_undo_1 := dk_seg dksX9_undo_0 24 rfl rfl
theorem dksX9_undo_2 : cX9_undo.data.toList.drop 46 = dktX9_undo_2 := dk_seg dksX9_undo_1 22 rfl rfl
theorem dX9_undo_0 : decode cX9_undo 0 = .ok (.aload_n 0, 1) := dk_42 (dk_at dksX9_undo_0 0 rfl rfl)
theorem dX9_undo_1 : decode cX9_undo 1 = .ok (.iconst 0, 1) := dk_3 (dk_at dksX9_undo_0 1 rfl rfl)
theorem dX9_undo_2 : decode cX9_undo 2 = .ok (.putfield 52, 3) := dk_181 0 52 (dk_at dksX9_undo_0 2 rfl rfl)
theorem dX9_undo_5 : decode cX9_undo 5 = .ok (.aload_n 0, 1) := dk_42 (dk_at dksX9_undo_0 5 rfl rfl)
theorem dX9_undo_6 : decode cX9_undo 6 = .ok (.getfield 60, 3) := dk_180 0 60 (dk_at dksX9_undo_0 6 rfl rfl)
theorem dX9_undo_9 : decode cX9_undo 9 = .ok (.ifCond .ne 9, 3) := dk_154 0 9 (dk_at dksX9_undo_0 9 rfl rfl)
theorem dX9_undo_12 : decode cX9_undo 12 = .ok (.aload_n 0, 1) := dk_42 (dk_at dksX9_undo_0 12 rfl rfl)
theorem dX9_undo_13 : decode cX9_undo 13 = .ok (.iconst 1, 1) := dk_4 (dk_at dksX9_undo_0 13 rfl rfl)
theorem dX9_undo_14 : decode cX9_undo 14 = .ok (.invokevirtual 63, 3) := dk_182 0 63 (dk_at dksX9_undo_0 14 rfl rfl)
theorem dX9_undo_17 : decode cX9_undo 17 = .ok (.ireturn, 1) := dk_172 (dk_at dksX9_undo_0 17 rfl rfl)
theorem dX9_undo_18 : decode cX9_undo 18 = .ok (.aload_n 0, 1) := dk_42 (dk_at dksX9_undo_0 18 rfl rfl)
theorem dX9_undo_19 : decode cX9_undo 19 = .ok (.dup, 1) := dk_89 (dk_at dksX9_undo_0 19 rfl rfl)
theorem dX9_undo_20 : decode cX9_undo 20 = .ok (.getfield 60, 3) := dk_180 0 60 (dk_at dksX9_undo_0 20 rfl rfl)
theorem dX9_undo_23 : decode cX9_undo 23 = .ok (.iconst 1, 1) := dk_4 (dk_at dksX9_undo_0 23 rfl rfl)
theorem dX9_undo_24 : decode cX9_undo 24 = .ok (.isub, 1) := dk_100 (dk_at dksX9_undo_1 0 rfl rfl)
theorem dX9_undo_25 : decode cX9_undo 25 = .ok (.putfield 60, 3) := dk_181 0 60 (dk_at dksX9_undo_1 1 rfl rfl)
theorem dX9_undo_28 : decode cX9_undo 28 = .ok (.iconst 0, 1) := dk_3 (dk_at dksX9_undo_1 4 rfl rfl)
theorem dX9_undo_29 : decode cX9_undo 29 = .ok (.istore_n 1, 1) := dk_60 (dk_at dksX9_undo_1 5 rfl rfl)
theorem dX9_undo_30 : decode cX9_undo 30 = .ok (.iload_n 1, 1) := dk_27 (dk_at dksX9_undo_1 6 rfl rfl)
theorem dX9_undo_31 : decode cX9_undo 31 = .ok (.bipush 68, 2) := dk_16 68 (dk_at dksX9_undo_1 7 rfl rfl)
theorem dX9_undo_33 : decode cX9_undo 33 = .ok (.if_icmp .ge 29, 3) := dk_162 0 29 (dk_at dksX9_undo_1 9 rfl rfl)
theorem dX9_undo_36 : decode cX9_undo 36 = .ok (.aload_n 0, 1) := dk_42 (dk_at dksX9_undo_1 12 rfl rfl)
theorem dX9_undo_37 : decode cX9_undo 37 = .ok (.getfield 7, 3) := dk_180 0 7 (dk_at dksX9_undo_1 13 rfl rfl)
theorem dX9_undo_40 : decode cX9_undo 40 = .ok (.iload_n 1, 1) := dk_27 (dk_at dksX9_undo_1 16 rfl rfl)
theorem dX9_undo_41 : decode cX9_undo 41 = .ok (.aload_n 0, 1) := dk_42 (dk_at dksX9_undo_1 17 rfl rfl)
theorem dX9_undo_42 : decode cX9_undo 42 = .ok (.getfield 13, 3) := dk_180 0 13 (dk_at dksX9_undo_1 18 rfl rfl)
theorem dX9_undo_45 : decode cX9_undo 45 = .ok (.aload_n 0, 1) := dk_42 (dk_at dksX9_undo_1 21 rfl rfl)
theorem dX9_undo_46 : decode cX9_undo 46 = .ok (.getfield 60, 3) := dk_180 0 60 (dk_at dksX9_undo_2 0 rfl rfl)
theorem dX9_undo_49 : decode cX9_undo 49 = .ok (.bipush 68, 2) := dk_16 68 (dk_at dksX9_undo_2 3 rfl rfl)
theorem dX9_undo_51 : decode cX9_undo 51 = .ok (.imul, 1) := dk_104 (dk_at dksX9_undo_2 5 rfl rfl)
theorem dX9_undo_52 : decode cX9_undo 52 = .ok (.iload_n 1, 1) := dk_27 (dk_at dksX9_undo_2 6 rfl rfl)
theorem dX9_undo_53 : decode cX9_undo 53 = .ok (.iadd, 1) := dk_96 (dk_at dksX9_undo_2 7 rfl rfl)
theorem dX9_undo_54 : decode cX9_undo 54 = .ok (.iaload, 1) := dk_46 (dk_at dksX9_undo_2 8 rfl rfl)
theorem dX9_undo_55 : decode cX9_undo 55 = .ok (.iastore, 1) := dk_79 (dk_at dksX9_undo_2 9 rfl rfl)
theorem dX9_undo_56 : decode cX9_undo 56 = .ok (.iinc 1 1, 3) := dk_132 1 1 (dk_at dksX9_undo_2 10 rfl rfl)
theorem dX9_undo_59 : decode cX9_undo 59 = .ok (.goto (-29), 3) := dk_167 255 227 (dk_at dksX9_undo_2 13 rfl rfl)
theorem dX9_undo_62 : decode cX9_undo 62 = .ok (.aload_n 0, 1) := dk_42 (dk_at dksX9_undo_2 16 rfl rfl)
theorem dX9_undo_63 : decode cX9_undo 63 = .ok (.getfield 60, 3) := dk_180 0 60 (dk_at dksX9_undo_2 17 rfl rfl)
theorem dX9_undo_66 : decode cX9_undo 66 = .ok (.ireturn, 1) := dk_172 (dk_at dksX9_undo_2 20 rfl rfl)
abbrev cX9_fails : ByteArray := prog_11_method_3_code
def yX9_fails : MethodName := ⟨RX9, "fails", "(I)I"⟩
def dkwX9_fails_0 : List UInt8 := [42, 27, 181, 0, 52, 3, 172]
abbrev dktX9_fails_0 : List UInt8 := dkwX9_fails_0 ++ []
theorem dksX9_fails_0 : cX9_fails.data.toList.drop 0 = dktX9_fails_0 := by decide +kernel
theorem dX9_fails_0 : decode cX9_fails 0 = .ok (.aload_n 0, 1) := dk_42 (dk_at dksX9_fails_0 0 rfl rfl)
theorem dX9_fails_1 : decode cX9_fails 1 = .ok (.iload_n 1, 1) := dk_27 (dk_at dksX9_fails_0 1 rfl rfl)
theorem dX9_fails_2 : decode cX9_fails 2 = .ok (.putfield 52, 3) := dk_181 0 52 (dk_at dksX9_fails_0 2 rfl rfl)
theorem dX9_fails_5 : decode cX9_fails 5 = .ok (.iconst 0, 1) := dk_3 (dk_at dksX9_fails_0 5 rfl rfl)
theorem dX9_fails_6 : decode cX9_fails 6 = .ok (.ireturn, 1) := dk_172 (dk_at dksX9_fails_0 6 rfl rfl)
abbrev cX9_keep : ByteArray := prog_11_method_11_code
def yX9_keep : MethodName := ⟨RX9, "keep", "()I"⟩
def dkwX9_keep_1 : List UInt8 := [79, 132, 1, 1, 167, 255, 235, 42, 4, 181, 0, 67, 42, 182, 0, 71, 172]
abbrev dktX9_keep_1 : List UInt8 := dkwX9_keep_1 ++ []
def dkwX9_keep_0 : List UInt8 := [42, 3, 181, 0, 52, 3, 60, 27, 16, 68, 162, 0, 21, 42, 180, 0, 16, 27, 42, 180, 0, 7, 27, 46]
abbrev dktX9_keep_0 : List UInt8 := dkwX9_keep_0 ++ dktX9_keep_1
theorem dksX9_keep_0 : cX9_keep.data.toList.drop 0 = dktX9_keep_0 := by decide +kernel
theorem dksX9_keep_1 : cX9_keep.data.toList.drop 24 = dktX9_keep_1 := dk_seg dksX9_keep_0 24 rfl rfl
theorem dX9_keep_0 : decode cX9_keep 0 = .ok (.aload_n 0, 1) := dk_42 (dk_at dksX9_keep_0 0 rfl rfl)
theorem dX9_keep_1 : decode cX9_keep 1 = .ok (.iconst 0, 1) := dk_3 (dk_at dksX9_keep_0 1 rfl rfl)
theorem dX9_keep_2 : decode cX9_keep 2 = .ok (.putfield 52, 3) := dk_181 0 52 (dk_at dksX9_keep_0 2 rfl rfl)
theorem dX9_keep_5 : decode cX9_keep 5 = .ok (.iconst 0, 1) := dk_3 (dk_at dksX9_keep_0 5 rfl rfl)
theorem dX9_keep_6 : decode cX9_keep 6 = .ok (.istore_n 1, 1) := dk_60 (dk_at dksX9_keep_0 6 rfl rfl)
theorem dX9_keep_7 : decode cX9_keep 7 = .ok (.iload_n 1, 1) := dk_27 (dk_at dksX9_keep_0 7 rfl rfl)
theorem dX9_keep_8 : decode cX9_keep 8 = .ok (.bipush 68, 2) := dk_16 68 (dk_at dksX9_keep_0 8 rfl rfl)
theorem dX9_keep_10 : decode cX9_keep 10 = .ok (.if_icmp .ge 21, 3) := dk_162 0 21 (dk_at dksX9_keep_0 10 rfl rfl)
theorem dX9_keep_13 : decode cX9_keep 13 = .ok (.aload_n 0, 1) := dk_42 (dk_at dksX9_keep_0 13 rfl rfl)
theorem dX9_keep_14 : decode cX9_keep 14 = .ok (.getfield 16, 3) := dk_180 0 16 (dk_at dksX9_keep_0 14 rfl rfl)
theorem dX9_keep_17 : decode cX9_keep 17 = .ok (.iload_n 1, 1) := dk_27 (dk_at dksX9_keep_0 17 rfl rfl)
theorem dX9_keep_18 : decode cX9_keep 18 = .ok (.aload_n 0, 1) := dk_42 (dk_at dksX9_keep_0 18 rfl rfl)
theorem dX9_keep_19 : decode cX9_keep 19 = .ok (.getfield 7, 3) := dk_180 0 7 (dk_at dksX9_keep_0 19 rfl rfl)
theorem dX9_keep_22 : decode cX9_keep 22 = .ok (.iload_n 1, 1) := dk_27 (dk_at dksX9_keep_0 22 rfl rfl)
theorem dX9_keep_23 : decode cX9_keep 23 = .ok (.iaload, 1) := dk_46 (dk_at dksX9_keep_0 23 rfl rfl)
theorem dX9_keep_24 : decode cX9_keep 24 = .ok (.iastore, 1) := dk_79 (dk_at dksX9_keep_1 0 rfl rfl)
theorem dX9_keep_25 : decode cX9_keep 25 = .ok (.iinc 1 1, 3) := dk_132 1 1 (dk_at dksX9_keep_1 1 rfl rfl)
theorem dX9_keep_28 : decode cX9_keep 28 = .ok (.goto (-21), 3) := dk_167 255 235 (dk_at dksX9_keep_1 4 rfl rfl)
theorem dX9_keep_31 : decode cX9_keep 31 = .ok (.aload_n 0, 1) := dk_42 (dk_at dksX9_keep_1 7 rfl rfl)
theorem dX9_keep_32 : decode cX9_keep 32 = .ok (.iconst 1, 1) := dk_4 (dk_at dksX9_keep_1 8 rfl rfl)
theorem dX9_keep_33 : decode cX9_keep 33 = .ok (.putfield 67, 3) := dk_181 0 67 (dk_at dksX9_keep_1 9 rfl rfl)
theorem dX9_keep_36 : decode cX9_keep 36 = .ok (.aload_n 0, 1) := dk_42 (dk_at dksX9_keep_1 12 rfl rfl)
theorem dX9_keep_37 : decode cX9_keep 37 = .ok (.invokevirtual 71, 3) := dk_182 0 71 (dk_at dksX9_keep_1 13 rfl rfl)
theorem dX9_keep_40 : decode cX9_keep 40 = .ok (.ireturn, 1) := dk_172 (dk_at dksX9_keep_1 16 rfl rfl)
abbrev cX9_sumOfShades : ByteArray := prog_11_method_9_code
def yX9_sumOfShades : MethodName := ⟨RX9, "sumOfShades", "()I"⟩
def dkwX9_sumOfShades_1 : List UInt8 := [167, 255, 238, 27, 172]
abbrev dktX9_sumOfShades_1 : List UInt8 := dkwX9_sumOfShades_1 ++ []
def dkwX9_sumOfShades_0 : List UInt8 := [3, 60, 3, 61, 28, 16, 64, 162, 0, 18, 27, 42, 180, 0, 7, 28, 46, 96, 60, 132, 2, 1]
abbrev dktX9_sumOfShades_0 : List UInt8 := dkwX9_sumOfShades_0 ++ dktX9_sumOfShades_1
theorem dksX9_sumOfShades_0 : cX9_sumOfShades.data.toList.drop 0 = dktX9_sumOfShades_0 := by decide +kernel
theorem dksX9_sumOfShades_1 : cX9_sumOfShades.data.toList.drop 22 = dktX9_sumOfShades_1 := dk_seg dksX9_sumOfShades_0 22 rfl rfl
theorem dX9_sumOfShades_0 : decode cX9_sumOfShades 0 = .ok (.iconst 0, 1) := dk_3 (dk_at dksX9_sumOfShades_0 0 rfl rfl)
theorem dX9_sumOfShades_1 : decode cX9_sumOfShades 1 = .ok (.istore_n 1, 1) := dk_60 (dk_at dksX9_sumOfShades_0 1 rfl rfl)
theorem dX9_sumOfShades_2 : decode cX9_sumOfShades 2 = .ok (.iconst 0, 1) := dk_3 (dk_at dksX9_sumOfShades_0 2 rfl rfl)
theorem dX9_sumOfShades_3 : decode cX9_sumOfShades 3 = .ok (.istore_n 2, 1) := dk_61 (dk_at dksX9_sumOfShades_0 3 rfl rfl)
theorem dX9_sumOfShades_4 : decode cX9_sumOfShades 4 = .ok (.iload_n 2, 1) := dk_28 (dk_at dksX9_sumOfShades_0 4 rfl rfl)
theorem dX9_sumOfShades_5 : decode cX9_sumOfShades 5 = .ok (.bipush 64, 2) := dk_16 64 (dk_at dksX9_sumOfShades_0 5 rfl rfl)
theorem dX9_sumOfShades_7 : decode cX9_sumOfShades 7 = .ok (.if_icmp .ge 18, 3) := dk_162 0 18 (dk_at dksX9_sumOfShades_0 7 rfl rfl)
theorem dX9_sumOfShades_10 : decode cX9_sumOfShades 10 = .ok (.iload_n 1, 1) := dk_27 (dk_at dksX9_sumOfShades_0 10 rfl rfl)
theorem dX9_sumOfShades_11 : decode cX9_sumOfShades 11 = .ok (.aload_n 0, 1) := dk_42 (dk_at dksX9_sumOfShades_0 11 rfl rfl)
theorem dX9_sumOfShades_12 : decode cX9_sumOfShades 12 = .ok (.getfield 7, 3) := dk_180 0 7 (dk_at dksX9_sumOfShades_0 12 rfl rfl)
theorem dX9_sumOfShades_15 : decode cX9_sumOfShades 15 = .ok (.iload_n 2, 1) := dk_28 (dk_at dksX9_sumOfShades_0 15 rfl rfl)
theorem dX9_sumOfShades_16 : decode cX9_sumOfShades 16 = .ok (.iaload, 1) := dk_46 (dk_at dksX9_sumOfShades_0 16 rfl rfl)
theorem dX9_sumOfShades_17 : decode cX9_sumOfShades 17 = .ok (.iadd, 1) := dk_96 (dk_at dksX9_sumOfShades_0 17 rfl rfl)
theorem dX9_sumOfShades_18 : decode cX9_sumOfShades 18 = .ok (.istore_n 1, 1) := dk_60 (dk_at dksX9_sumOfShades_0 18 rfl rfl)
theorem dX9_sumOfShades_19 : decode cX9_sumOfShades 19 = .ok (.iinc 2 1, 3) := dk_132 2 1 (dk_at dksX9_sumOfShades_0 19 rfl rfl)
theorem dX9_sumOfShades_22 : decode cX9_sumOfShades 22 = .ok (.goto (-18), 3) := dk_167 255 238 (dk_at dksX9_sumOfShades_1 0 rfl rfl)
theorem dX9_sumOfShades_25 : decode cX9_sumOfShades 25 = .ok (.iload_n 1, 1) := dk_27 (dk_at dksX9_sumOfShades_1 3 rfl rfl)
theorem dX9_sumOfShades_26 : decode cX9_sumOfShades 26 = .ok (.ireturn, 1) := dk_172 (dk_at dksX9_sumOfShades_1 4 rfl rfl)
abbrev cX9_restore : ByteArray := prog_11_method_12_code
def yX9_restore : MethodName := ⟨RX9, "restore", "()I"⟩
def dkwX9_restore_2 : List UInt8 := [42, 182, 0, 71, 172]
abbrev dktX9_restore_2 : List UInt8 := dkwX9_restore_2 ++ []
def dkwX9_restore_1 : List UInt8 := [27, 16, 68, 162, 0, 21, 42, 180, 0, 7, 27, 42, 180, 0, 16, 27, 46, 79, 132, 1, 1, 167, 255, 235]
abbrev dktX9_restore_1 : List UInt8 := dkwX9_restore_1 ++ dktX9_restore_2
def dkwX9_restore_0 : List UInt8 := [42, 3, 181, 0, 52, 42, 180, 0, 67, 154, 0, 9, 42, 4, 182, 0, 63, 172, 42, 182, 0, 75, 3, 60]
abbrev dktX9_restore_0 : List UInt8 := dkwX9_restore_0 ++ dktX9_restore_1
theorem dksX9_restore_0 : cX9_restore.data.toList.drop 0 = dktX9_restore_0 := by decide +kernel
theorem dksX9_restore_1 : cX9_restore.data.toList.drop 24 = dktX9_restore_1 := dk_seg dksX9_restore_0 24 rfl rfl
theorem dksX9_restore_2 : cX9_restore.data.toList.drop 48 = dktX9_restore_2 := dk_seg dksX9_restore_1 24 rfl rfl
theorem dX9_restore_0 : decode cX9_restore 0 = .ok (.aload_n 0, 1) := dk_42 (dk_at dksX9_restore_0 0 rfl rfl)
theorem dX9_restore_1 : decode cX9_restore 1 = .ok (.iconst 0, 1) := dk_3 (dk_at dksX9_restore_0 1 rfl rfl)
theorem dX9_restore_2 : decode cX9_restore 2 = .ok (.putfield 52, 3) := dk_181 0 52 (dk_at dksX9_restore_0 2 rfl rfl)
theorem dX9_restore_5 : decode cX9_restore 5 = .ok (.aload_n 0, 1) := dk_42 (dk_at dksX9_restore_0 5 rfl rfl)
theorem dX9_restore_6 : decode cX9_restore 6 = .ok (.getfield 67, 3) := dk_180 0 67 (dk_at dksX9_restore_0 6 rfl rfl)
theorem dX9_restore_9 : decode cX9_restore 9 = .ok (.ifCond .ne 9, 3) := dk_154 0 9 (dk_at dksX9_restore_0 9 rfl rfl)
theorem dX9_restore_12 : decode cX9_restore 12 = .ok (.aload_n 0, 1) := dk_42 (dk_at dksX9_restore_0 12 rfl rfl)
theorem dX9_restore_13 : decode cX9_restore 13 = .ok (.iconst 1, 1) := dk_4 (dk_at dksX9_restore_0 13 rfl rfl)
theorem dX9_restore_14 : decode cX9_restore 14 = .ok (.invokevirtual 63, 3) := dk_182 0 63 (dk_at dksX9_restore_0 14 rfl rfl)
theorem dX9_restore_17 : decode cX9_restore 17 = .ok (.ireturn, 1) := dk_172 (dk_at dksX9_restore_0 17 rfl rfl)
theorem dX9_restore_18 : decode cX9_restore 18 = .ok (.aload_n 0, 1) := dk_42 (dk_at dksX9_restore_0 18 rfl rfl)
theorem dX9_restore_19 : decode cX9_restore 19 = .ok (.invokevirtual 75, 3) := dk_182 0 75 (dk_at dksX9_restore_0 19 rfl rfl)
theorem dX9_restore_22 : decode cX9_restore 22 = .ok (.iconst 0, 1) := dk_3 (dk_at dksX9_restore_0 22 rfl rfl)
theorem dX9_restore_23 : decode cX9_restore 23 = .ok (.istore_n 1, 1) := dk_60 (dk_at dksX9_restore_0 23 rfl rfl)
theorem dX9_restore_24 : decode cX9_restore 24 = .ok (.iload_n 1, 1) := dk_27 (dk_at dksX9_restore_1 0 rfl rfl)
theorem dX9_restore_25 : decode cX9_restore 25 = .ok (.bipush 68, 2) := dk_16 68 (dk_at dksX9_restore_1 1 rfl rfl)
theorem dX9_restore_27 : decode cX9_restore 27 = .ok (.if_icmp .ge 21, 3) := dk_162 0 21 (dk_at dksX9_restore_1 3 rfl rfl)
theorem dX9_restore_30 : decode cX9_restore 30 = .ok (.aload_n 0, 1) := dk_42 (dk_at dksX9_restore_1 6 rfl rfl)
theorem dX9_restore_31 : decode cX9_restore 31 = .ok (.getfield 7, 3) := dk_180 0 7 (dk_at dksX9_restore_1 7 rfl rfl)
theorem dX9_restore_34 : decode cX9_restore 34 = .ok (.iload_n 1, 1) := dk_27 (dk_at dksX9_restore_1 10 rfl rfl)
theorem dX9_restore_35 : decode cX9_restore 35 = .ok (.aload_n 0, 1) := dk_42 (dk_at dksX9_restore_1 11 rfl rfl)
theorem dX9_restore_36 : decode cX9_restore 36 = .ok (.getfield 16, 3) := dk_180 0 16 (dk_at dksX9_restore_1 12 rfl rfl)
theorem dX9_restore_39 : decode cX9_restore 39 = .ok (.iload_n 1, 1) := dk_27 (dk_at dksX9_restore_1 15 rfl rfl)
theorem dX9_restore_40 : decode cX9_restore 40 = .ok (.iaload, 1) := dk_46 (dk_at dksX9_restore_1 16 rfl rfl)
theorem dX9_restore_41 : decode cX9_restore 41 = .ok (.iastore, 1) := dk_79 (dk_at dksX9_restore_1 17 rfl rfl)
theorem dX9_restore_42 : decode cX9_restore 42 = .ok (.iinc 1 1, 3) := dk_132 1 1 (dk_at dksX9_restore_1 18 rfl rfl)
theorem dX9_restore_45 : decode cX9_restore 45 = .ok (.goto (-21), 3) := dk_167 255 235 (dk_at dksX9_restore_1 21 rfl rfl)
theorem dX9_restore_48 : decode cX9_restore 48 = .ok (.aload_n 0, 1) := dk_42 (dk_at dksX9_restore_2 0 rfl rfl)
theorem dX9_restore_49 : decode cX9_restore 49 = .ok (.invokevirtual 71, 3) := dk_182 0 71 (dk_at dksX9_restore_2 1 rfl rfl)
theorem dX9_restore_52 : decode cX9_restore 52 = .ok (.ireturn, 1) := dk_172 (dk_at dksX9_restore_2 4 rfl rfl)
abbrev cX9_record : ByteArray := prog_11_method_8_code
def yX9_record : MethodName := ⟨RX9, "record", "()V"⟩
def dkwX9_record_3 : List UInt8 := [42, 180, 0, 7, 27, 46, 79, 132, 1, 1, 167, 255, 227, 42, 89, 180, 0, 60, 4, 96, 181, 0, 60, 177]
abbrev dktX9_record_3 : List UInt8 := dkwX9_record_3 ++ []
def dkwX9_record_2 : List UInt8 := [181, 0, 60, 3, 60, 27, 16, 68, 162, 0, 29, 42, 180, 0, 13, 42, 180, 0, 60, 16, 68, 104, 27, 96]
abbrev dktX9_record_2 : List UInt8 := dkwX9_record_2 ++ dktX9_record_3
def dkwX9_record_1 : List UInt8 := [180, 0, 13, 27, 16, 68, 96, 46, 79, 132, 1, 1, 167, 255, 231, 42, 89, 180, 0, 60, 4, 100]
abbrev dktX9_record_1 : List UInt8 := dkwX9_record_1 ++ dktX9_record_2
def dkwX9_record_0 : List UInt8 := [42, 180, 0, 60, 16, 6, 160, 0, 43, 3, 60, 27, 17, 1, 84, 162, 0, 24, 42, 180, 0, 13, 27, 42]
abbrev dktX9_record_0 : List UInt8 := dkwX9_record_0 ++ dktX9_record_1
theorem dksX9_record_0 : cX9_record.data.toList.drop 0 = dktX9_record_0 := by decide +kernel
theorem dksX9_record_1 : cX9_record.data.toList.drop 24 = dktX9_record_1 := dk_seg dksX9_record_0 24 rfl rfl
theorem dksX9_record_2 : cX9_record.data.toList.drop 46 = dktX9_record_2 := dk_seg dksX9_record_1 22 rfl rfl
theorem dksX9_record_3 : cX9_record.data.toList.drop 70 = dktX9_record_3 := dk_seg dksX9_record_2 24 rfl rfl
theorem dX9_record_0 : decode cX9_record 0 = .ok (.aload_n 0, 1) := dk_42 (dk_at dksX9_record_0 0 rfl rfl)
theorem dX9_record_1 : decode cX9_record 1 = .ok (.getfield 60, 3) := dk_180 0 60 (dk_at dksX9_record_0 1 rfl rfl)
theorem dX9_record_4 : decode cX9_record 4 = .ok (.bipush 6, 2) := dk_16 6 (dk_at dksX9_record_0 4 rfl rfl)
theorem dX9_record_6 : decode cX9_record 6 = .ok (.if_icmp .ne 43, 3) := dk_160 0 43 (dk_at dksX9_record_0 6 rfl rfl)
theorem dX9_record_9 : decode cX9_record 9 = .ok (.iconst 0, 1) := dk_3 (dk_at dksX9_record_0 9 rfl rfl)
theorem dX9_record_10 : decode cX9_record 10 = .ok (.istore_n 1, 1) := dk_60 (dk_at dksX9_record_0 10 rfl rfl)
theorem dX9_record_11 : decode cX9_record 11 = .ok (.iload_n 1, 1) := dk_27 (dk_at dksX9_record_0 11 rfl rfl)
theorem dX9_record_12 : decode cX9_record 12 = .ok (.sipush 340, 3) := dk_17 1 84 (dk_at dksX9_record_0 12 rfl rfl)
theorem dX9_record_15 : decode cX9_record 15 = .ok (.if_icmp .ge 24, 3) := dk_162 0 24 (dk_at dksX9_record_0 15 rfl rfl)
theorem dX9_record_18 : decode cX9_record 18 = .ok (.aload_n 0, 1) := dk_42 (dk_at dksX9_record_0 18 rfl rfl)
theorem dX9_record_19 : decode cX9_record 19 = .ok (.getfield 13, 3) := dk_180 0 13 (dk_at dksX9_record_0 19 rfl rfl)
theorem dX9_record_22 : decode cX9_record 22 = .ok (.iload_n 1, 1) := dk_27 (dk_at dksX9_record_0 22 rfl rfl)
theorem dX9_record_23 : decode cX9_record 23 = .ok (.aload_n 0, 1) := dk_42 (dk_at dksX9_record_0 23 rfl rfl)
theorem dX9_record_24 : decode cX9_record 24 = .ok (.getfield 13, 3) := dk_180 0 13 (dk_at dksX9_record_1 0 rfl rfl)
theorem dX9_record_27 : decode cX9_record 27 = .ok (.iload_n 1, 1) := dk_27 (dk_at dksX9_record_1 3 rfl rfl)
theorem dX9_record_28 : decode cX9_record 28 = .ok (.bipush 68, 2) := dk_16 68 (dk_at dksX9_record_1 4 rfl rfl)
theorem dX9_record_30 : decode cX9_record 30 = .ok (.iadd, 1) := dk_96 (dk_at dksX9_record_1 6 rfl rfl)
theorem dX9_record_31 : decode cX9_record 31 = .ok (.iaload, 1) := dk_46 (dk_at dksX9_record_1 7 rfl rfl)
theorem dX9_record_32 : decode cX9_record 32 = .ok (.iastore, 1) := dk_79 (dk_at dksX9_record_1 8 rfl rfl)
theorem dX9_record_33 : decode cX9_record 33 = .ok (.iinc 1 1, 3) := dk_132 1 1 (dk_at dksX9_record_1 9 rfl rfl)
theorem dX9_record_36 : decode cX9_record 36 = .ok (.goto (-25), 3) := dk_167 255 231 (dk_at dksX9_record_1 12 rfl rfl)
theorem dX9_record_39 : decode cX9_record 39 = .ok (.aload_n 0, 1) := dk_42 (dk_at dksX9_record_1 15 rfl rfl)
theorem dX9_record_40 : decode cX9_record 40 = .ok (.dup, 1) := dk_89 (dk_at dksX9_record_1 16 rfl rfl)
theorem dX9_record_41 : decode cX9_record 41 = .ok (.getfield 60, 3) := dk_180 0 60 (dk_at dksX9_record_1 17 rfl rfl)
theorem dX9_record_44 : decode cX9_record 44 = .ok (.iconst 1, 1) := dk_4 (dk_at dksX9_record_1 20 rfl rfl)
theorem dX9_record_45 : decode cX9_record 45 = .ok (.isub, 1) := dk_100 (dk_at dksX9_record_1 21 rfl rfl)
theorem dX9_record_46 : decode cX9_record 46 = .ok (.putfield 60, 3) := dk_181 0 60 (dk_at dksX9_record_2 0 rfl rfl)
theorem dX9_record_49 : decode cX9_record 49 = .ok (.iconst 0, 1) := dk_3 (dk_at dksX9_record_2 3 rfl rfl)
theorem dX9_record_50 : decode cX9_record 50 = .ok (.istore_n 1, 1) := dk_60 (dk_at dksX9_record_2 4 rfl rfl)
theorem dX9_record_51 : decode cX9_record 51 = .ok (.iload_n 1, 1) := dk_27 (dk_at dksX9_record_2 5 rfl rfl)
theorem dX9_record_52 : decode cX9_record 52 = .ok (.bipush 68, 2) := dk_16 68 (dk_at dksX9_record_2 6 rfl rfl)
theorem dX9_record_54 : decode cX9_record 54 = .ok (.if_icmp .ge 29, 3) := dk_162 0 29 (dk_at dksX9_record_2 8 rfl rfl)
theorem dX9_record_57 : decode cX9_record 57 = .ok (.aload_n 0, 1) := dk_42 (dk_at dksX9_record_2 11 rfl rfl)
theorem dX9_record_58 : decode cX9_record 58 = .ok (.getfield 13, 3) := dk_180 0 13 (dk_at dksX9_record_2 12 rfl rfl)
theorem dX9_record_61 : decode cX9_record 61 = .ok (.aload_n 0, 1) := dk_42 (dk_at dksX9_record_2 15 rfl rfl)
theorem dX9_record_62 : decode cX9_record 62 = .ok (.getfield 60, 3) := dk_180 0 60 (dk_at dksX9_record_2 16 rfl rfl)
theorem dX9_record_65 : decode cX9_record 65 = .ok (.bipush 68, 2) := dk_16 68 (dk_at dksX9_record_2 19 rfl rfl)
theorem dX9_record_67 : decode cX9_record 67 = .ok (.imul, 1) := dk_104 (dk_at dksX9_record_2 21 rfl rfl)
theorem dX9_record_68 : decode cX9_record 68 = .ok (.iload_n 1, 1) := dk_27 (dk_at dksX9_record_2 22 rfl rfl)
theorem dX9_record_69 : decode cX9_record 69 = .ok (.iadd, 1) := dk_96 (dk_at dksX9_record_2 23 rfl rfl)
theorem dX9_record_70 : decode cX9_record 70 = .ok (.aload_n 0, 1) := dk_42 (dk_at dksX9_record_3 0 rfl rfl)
theorem dX9_record_71 : decode cX9_record 71 = .ok (.getfield 7, 3) := dk_180 0 7 (dk_at dksX9_record_3 1 rfl rfl)
theorem dX9_record_74 : decode cX9_record 74 = .ok (.iload_n 1, 1) := dk_27 (dk_at dksX9_record_3 4 rfl rfl)
theorem dX9_record_75 : decode cX9_record 75 = .ok (.iaload, 1) := dk_46 (dk_at dksX9_record_3 5 rfl rfl)
theorem dX9_record_76 : decode cX9_record 76 = .ok (.iastore, 1) := dk_79 (dk_at dksX9_record_3 6 rfl rfl)
theorem dX9_record_77 : decode cX9_record 77 = .ok (.iinc 1 1, 3) := dk_132 1 1 (dk_at dksX9_record_3 7 rfl rfl)
theorem dX9_record_80 : decode cX9_record 80 = .ok (.goto (-29), 3) := dk_167 255 227 (dk_at dksX9_record_3 10 rfl rfl)
theorem dX9_record_83 : decode cX9_record 83 = .ok (.aload_n 0, 1) := dk_42 (dk_at dksX9_record_3 13 rfl rfl)
theorem dX9_record_84 : decode cX9_record 84 = .ok (.dup, 1) := dk_89 (dk_at dksX9_record_3 14 rfl rfl)
theorem dX9_record_85 : decode cX9_record 85 = .ok (.getfield 60, 3) := dk_180 0 60 (dk_at dksX9_record_3 15 rfl rfl)
theorem dX9_record_88 : decode cX9_record 88 = .ok (.iconst 1, 1) := dk_4 (dk_at dksX9_record_3 18 rfl rfl)
theorem dX9_record_89 : decode cX9_record 89 = .ok (.iadd, 1) := dk_96 (dk_at dksX9_record_3 19 rfl rfl)
theorem dX9_record_90 : decode cX9_record 90 = .ok (.putfield 60, 3) := dk_181 0 60 (dk_at dksX9_record_3 20 rfl rfl)
theorem dX9_record_93 : decode cX9_record 93 = .ok (.return_, 1) := dk_177 (dk_at dksX9_record_3 23 rfl rfl)
abbrev cX9_savedStates : ByteArray := prog_11_method_13_code
def yX9_savedStates : MethodName := ⟨RX9, "savedStates", "()I"⟩
def dkwX9_savedStates_0 : List UInt8 := [42, 3, 181, 0, 52, 42, 180, 0, 60, 172]
abbrev dktX9_savedStates_0 : List UInt8 := dkwX9_savedStates_0 ++ []
theorem dksX9_savedStates_0 : cX9_savedStates.data.toList.drop 0 = dktX9_savedStates_0 := by decide +kernel
theorem dX9_savedStates_0 : decode cX9_savedStates 0 = .ok (.aload_n 0, 1) := dk_42 (dk_at dksX9_savedStates_0 0 rfl rfl)
theorem dX9_savedStates_1 : decode cX9_savedStates 1 = .ok (.iconst 0, 1) := dk_3 (dk_at dksX9_savedStates_0 1 rfl rfl)
theorem dX9_savedStates_2 : decode cX9_savedStates 2 = .ok (.putfield 52, 3) := dk_181 0 52 (dk_at dksX9_savedStates_0 2 rfl rfl)
theorem dX9_savedStates_5 : decode cX9_savedStates 5 = .ok (.aload_n 0, 1) := dk_42 (dk_at dksX9_savedStates_0 5 rfl rfl)
theorem dX9_savedStates_6 : decode cX9_savedStates 6 = .ok (.getfield 60, 3) := dk_180 0 60 (dk_at dksX9_savedStates_0 6 rfl rfl)
theorem dX9_savedStates_9 : decode cX9_savedStates 9 = .ok (.ireturn, 1) := dk_172 (dk_at dksX9_savedStates_0 9 rfl rfl)
abbrev cX9_crumbs : ByteArray := prog_11_method_33_code
def yX9_crumbs : MethodName := ⟨RX9, "crumbs", "(I)I"⟩
def dkwX9_crumbs_1 : List UInt8 := [182, 0, 63, 172]
abbrev dktX9_crumbs_1 : List UInt8 := dkwX9_crumbs_1 ++ []
def dkwX9_crumbs_0 : List UInt8 := [42, 3, 181, 0, 52, 27, 184, 0, 127, 153, 0, 11, 42, 27, 182, 0, 115, 167, 0, 8, 42, 4]
abbrev dktX9_crumbs_0 : List UInt8 := dkwX9_crumbs_0 ++ dktX9_crumbs_1
theorem dksX9_crumbs_0 : cX9_crumbs.data.toList.drop 0 = dktX9_crumbs_0 := by decide +kernel
theorem dksX9_crumbs_1 : cX9_crumbs.data.toList.drop 22 = dktX9_crumbs_1 := dk_seg dksX9_crumbs_0 22 rfl rfl
theorem dX9_crumbs_0 : decode cX9_crumbs 0 = .ok (.aload_n 0, 1) := dk_42 (dk_at dksX9_crumbs_0 0 rfl rfl)
theorem dX9_crumbs_1 : decode cX9_crumbs 1 = .ok (.iconst 0, 1) := dk_3 (dk_at dksX9_crumbs_0 1 rfl rfl)
theorem dX9_crumbs_2 : decode cX9_crumbs 2 = .ok (.putfield 52, 3) := dk_181 0 52 (dk_at dksX9_crumbs_0 2 rfl rfl)
theorem dX9_crumbs_5 : decode cX9_crumbs 5 = .ok (.iload_n 1, 1) := dk_27 (dk_at dksX9_crumbs_0 5 rfl rfl)
theorem dX9_crumbs_6 : decode cX9_crumbs 6 = .ok (.invokestatic 127, 3) := dk_184 0 127 (dk_at dksX9_crumbs_0 6 rfl rfl)
theorem dX9_crumbs_9 : decode cX9_crumbs 9 = .ok (.ifCond .eq 11, 3) := dk_153 0 11 (dk_at dksX9_crumbs_0 9 rfl rfl)
theorem dX9_crumbs_12 : decode cX9_crumbs 12 = .ok (.aload_n 0, 1) := dk_42 (dk_at dksX9_crumbs_0 12 rfl rfl)
theorem dX9_crumbs_13 : decode cX9_crumbs 13 = .ok (.iload_n 1, 1) := dk_27 (dk_at dksX9_crumbs_0 13 rfl rfl)
theorem dX9_crumbs_14 : decode cX9_crumbs 14 = .ok (.invokevirtual 115, 3) := dk_182 0 115 (dk_at dksX9_crumbs_0 14 rfl rfl)
theorem dX9_crumbs_17 : decode cX9_crumbs 17 = .ok (.goto 8, 3) := dk_167 0 8 (dk_at dksX9_crumbs_0 17 rfl rfl)
theorem dX9_crumbs_20 : decode cX9_crumbs 20 = .ok (.aload_n 0, 1) := dk_42 (dk_at dksX9_crumbs_0 20 rfl rfl)
theorem dX9_crumbs_21 : decode cX9_crumbs 21 = .ok (.iconst 1, 1) := dk_4 (dk_at dksX9_crumbs_0 21 rfl rfl)
theorem dX9_crumbs_22 : decode cX9_crumbs 22 = .ok (.invokevirtual 63, 3) := dk_182 0 63 (dk_at dksX9_crumbs_1 0 rfl rfl)
theorem dX9_crumbs_25 : decode cX9_crumbs 25 = .ok (.ireturn, 1) := dk_172 (dk_at dksX9_crumbs_1 3 rfl rfl)
abbrev cX9_isShade : ByteArray := prog_11_method_6_code
def yX9_isShade : MethodName := ⟨RX9, "isShade", "(I)Z"⟩
def dkwX9_isShade_0 : List UInt8 := [26, 3, 17, 0, 255, 184, 0, 56, 172]
abbrev dktX9_isShade_0 : List UInt8 := dkwX9_isShade_0 ++ []
theorem dksX9_isShade_0 : cX9_isShade.data.toList.drop 0 = dktX9_isShade_0 := by decide +kernel
theorem dX9_isShade_0 : decode cX9_isShade 0 = .ok (.iload_n 0, 1) := dk_26 (dk_at dksX9_isShade_0 0 rfl rfl)
theorem dX9_isShade_1 : decode cX9_isShade 1 = .ok (.iconst 0, 1) := dk_3 (dk_at dksX9_isShade_0 1 rfl rfl)
theorem dX9_isShade_2 : decode cX9_isShade 2 = .ok (.sipush 255, 3) := dk_17 0 255 (dk_at dksX9_isShade_0 2 rfl rfl)
theorem dX9_isShade_5 : decode cX9_isShade 5 = .ok (.invokestatic 56, 3) := dk_184 0 56 (dk_at dksX9_isShade_0 5 rfl rfl)
theorem dX9_isShade_8 : decode cX9_isShade 8 = .ok (.ireturn, 1) := dk_172 (dk_at dksX9_isShade_0 8 rfl rfl)
abbrev cX9_within : ByteArray := prog_11_method_4_code
def yX9_within : MethodName := ⟨RX9, "within", "(III)Z"⟩
def dkwX9_within_0 : List UInt8 := [26, 27, 161, 0, 12, 26, 28, 163, 0, 7, 4, 167, 0, 4, 3, 172]
abbrev dktX9_within_0 : List UInt8 := dkwX9_within_0 ++ []
theorem dksX9_within_0 : cX9_within.data.toList.drop 0 = dktX9_within_0 := by decide +kernel
theorem dX9_within_0 : decode cX9_within 0 = .ok (.iload_n 0, 1) := dk_26 (dk_at dksX9_within_0 0 rfl rfl)
theorem dX9_within_1 : decode cX9_within 1 = .ok (.iload_n 1, 1) := dk_27 (dk_at dksX9_within_0 1 rfl rfl)
theorem dX9_within_2 : decode cX9_within 2 = .ok (.if_icmp .lt 12, 3) := dk_161 0 12 (dk_at dksX9_within_0 2 rfl rfl)
theorem dX9_within_5 : decode cX9_within 5 = .ok (.iload_n 0, 1) := dk_26 (dk_at dksX9_within_0 5 rfl rfl)
theorem dX9_within_6 : decode cX9_within 6 = .ok (.iload_n 2, 1) := dk_28 (dk_at dksX9_within_0 6 rfl rfl)
theorem dX9_within_7 : decode cX9_within 7 = .ok (.if_icmp .gt 7, 3) := dk_163 0 7 (dk_at dksX9_within_0 7 rfl rfl)
theorem dX9_within_10 : decode cX9_within 10 = .ok (.iconst 1, 1) := dk_4 (dk_at dksX9_within_0 10 rfl rfl)
theorem dX9_within_11 : decode cX9_within 11 = .ok (.goto 4, 3) := dk_167 0 4 (dk_at dksX9_within_0 11 rfl rfl)
theorem dX9_within_14 : decode cX9_within 14 = .ok (.iconst 0, 1) := dk_3 (dk_at dksX9_within_0 14 rfl rfl)
theorem dX9_within_15 : decode cX9_within 15 = .ok (.ireturn, 1) := dk_172 (dk_at dksX9_within_0 15 rfl rfl)
abbrev cX9_dropFrom : ByteArray := prog_11_method_25_code
def yX9_dropFrom : MethodName := ⟨RX9, "dropFrom", "(I)I"⟩
def dkwX9_dropFrom_3 : List UInt8 := [29, 46, 79, 28, 21, 4, 153, 0, 7, 4, 167, 0, 4, 3, 96, 61, 132, 3, 1, 167, 255, 176, 28, 172]
abbrev dktX9_dropFrom_3 : List UInt8 := dkwX9_dropFrom_3 ++ []
def dkwX9_dropFrom_2 : List UInt8 := [167, 0, 4, 3, 54, 4, 42, 180, 0, 22, 29, 21, 4, 153, 0, 7, 3, 167, 0, 9, 42, 180, 0, 22]
abbrev dktX9_dropFrom_2 : List UInt8 := dkwX9_dropFrom_2 ++ dktX9_dropFrom_3
def dkwX9_dropFrom_1 : List UInt8 := [180, 0, 22, 29, 46, 153, 0, 20, 42, 180, 0, 22, 29, 46, 184, 0, 106, 27, 163, 0, 7, 4]
abbrev dktX9_dropFrom_1 : List UInt8 := dkwX9_dropFrom_1 ++ dktX9_dropFrom_2
def dkwX9_dropFrom_0 : List UInt8 := [42, 182, 0, 99, 3, 61, 3, 62, 29, 16, 64, 162, 0, 80, 42, 29, 182, 0, 102, 153, 0, 29, 42]
abbrev dktX9_dropFrom_0 : List UInt8 := dkwX9_dropFrom_0 ++ dktX9_dropFrom_1
theorem dksX9_dropFrom_0 : cX9_dropFrom.data.toList.drop 0 = dktX9_dropFrom_0 := by decide +kernel
theorem dksX9_dropFrom_1 : cX9_dropFrom.data.toList.drop 23 = dktX9_dropFrom_1 := dk_seg dksX9_dropFrom_0 23 rfl rfl
theorem dksX9_dropFrom_2 : cX9_dropFrom.data.toList.drop 45 = dktX9_dropFrom_2 := dk_seg dksX9_dropFrom_1 22 rfl rfl
theorem dksX9_dropFrom_3 : cX9_dropFrom.data.toList.drop 69 = dktX9_dropFrom_3 := dk_seg dksX9_dropFrom_2 24 rfl rfl
theorem dX9_dropFrom_0 : decode cX9_dropFrom 0 = .ok (.aload_n 0, 1) := dk_42 (dk_at dksX9_dropFrom_0 0 rfl rfl)
theorem dX9_dropFrom_1 : decode cX9_dropFrom 1 = .ok (.invokevirtual 99, 3) := dk_182 0 99 (dk_at dksX9_dropFrom_0 1 rfl rfl)
theorem dX9_dropFrom_4 : decode cX9_dropFrom 4 = .ok (.iconst 0, 1) := dk_3 (dk_at dksX9_dropFrom_0 4 rfl rfl)
theorem dX9_dropFrom_5 : decode cX9_dropFrom 5 = .ok (.istore_n 2, 1) := dk_61 (dk_at dksX9_dropFrom_0 5 rfl rfl)
theorem dX9_dropFrom_6 : decode cX9_dropFrom 6 = .ok (.iconst 0, 1) := dk_3 (dk_at dksX9_dropFrom_0 6 rfl rfl)
theorem dX9_dropFrom_7 : decode cX9_dropFrom 7 = .ok (.istore_n 3, 1) := dk_62 (dk_at dksX9_dropFrom_0 7 rfl rfl)
theorem dX9_dropFrom_8 : decode cX9_dropFrom 8 = .ok (.iload_n 3, 1) := dk_29 (dk_at dksX9_dropFrom_0 8 rfl rfl)
theorem dX9_dropFrom_9 : decode cX9_dropFrom 9 = .ok (.bipush 64, 2) := dk_16 64 (dk_at dksX9_dropFrom_0 9 rfl rfl)
theorem dX9_dropFrom_11 : decode cX9_dropFrom 11 = .ok (.if_icmp .ge 80, 3) := dk_162 0 80 (dk_at dksX9_dropFrom_0 11 rfl rfl)
theorem dX9_dropFrom_14 : decode cX9_dropFrom 14 = .ok (.aload_n 0, 1) := dk_42 (dk_at dksX9_dropFrom_0 14 rfl rfl)
theorem dX9_dropFrom_15 : decode cX9_dropFrom 15 = .ok (.iload_n 3, 1) := dk_29 (dk_at dksX9_dropFrom_0 15 rfl rfl)
theorem dX9_dropFrom_16 : decode cX9_dropFrom 16 = .ok (.invokevirtual 102, 3) := dk_182 0 102 (dk_at dksX9_dropFrom_0 16 rfl rfl)
theorem dX9_dropFrom_19 : decode cX9_dropFrom 19 = .ok (.ifCond .eq 29, 3) := dk_153 0 29 (dk_at dksX9_dropFrom_0 19 rfl rfl)
theorem dX9_dropFrom_22 : decode cX9_dropFrom 22 = .ok (.aload_n 0, 1) := dk_42 (dk_at dksX9_dropFrom_0 22 rfl rfl)
theorem dX9_dropFrom_23 : decode cX9_dropFrom 23 = .ok (.getfield 22, 3) := dk_180 0 22 (dk_at dksX9_dropFrom_1 0 rfl rfl)
theorem dX9_dropFrom_26 : decode cX9_dropFrom 26 = .ok (.iload_n 3, 1) := dk_29 (dk_at dksX9_dropFrom_1 3 rfl rfl)
theorem dX9_dropFrom_27 : decode cX9_dropFrom 27 = .ok (.iaload, 1) := dk_46 (dk_at dksX9_dropFrom_1 4 rfl rfl)
theorem dX9_dropFrom_28 : decode cX9_dropFrom 28 = .ok (.ifCond .eq 20, 3) := dk_153 0 20 (dk_at dksX9_dropFrom_1 5 rfl rfl)
theorem dX9_dropFrom_31 : decode cX9_dropFrom 31 = .ok (.aload_n 0, 1) := dk_42 (dk_at dksX9_dropFrom_1 8 rfl rfl)
theorem dX9_dropFrom_32 : decode cX9_dropFrom 32 = .ok (.getfield 22, 3) := dk_180 0 22 (dk_at dksX9_dropFrom_1 9 rfl rfl)
theorem dX9_dropFrom_35 : decode cX9_dropFrom 35 = .ok (.iload_n 3, 1) := dk_29 (dk_at dksX9_dropFrom_1 12 rfl rfl)
theorem dX9_dropFrom_36 : decode cX9_dropFrom 36 = .ok (.iaload, 1) := dk_46 (dk_at dksX9_dropFrom_1 13 rfl rfl)
theorem dX9_dropFrom_37 : decode cX9_dropFrom 37 = .ok (.invokestatic 106, 3) := dk_184 0 106 (dk_at dksX9_dropFrom_1 14 rfl rfl)
theorem dX9_dropFrom_40 : decode cX9_dropFrom 40 = .ok (.iload_n 1, 1) := dk_27 (dk_at dksX9_dropFrom_1 17 rfl rfl)
theorem dX9_dropFrom_41 : decode cX9_dropFrom 41 = .ok (.if_icmp .gt 7, 3) := dk_163 0 7 (dk_at dksX9_dropFrom_1 18 rfl rfl)
theorem dX9_dropFrom_44 : decode cX9_dropFrom 44 = .ok (.iconst 1, 1) := dk_4 (dk_at dksX9_dropFrom_1 21 rfl rfl)
theorem dX9_dropFrom_45 : decode cX9_dropFrom 45 = .ok (.goto 4, 3) := dk_167 0 4 (dk_at dksX9_dropFrom_2 0 rfl rfl)
theorem dX9_dropFrom_48 : decode cX9_dropFrom 48 = .ok (.iconst 0, 1) := dk_3 (dk_at dksX9_dropFrom_2 3 rfl rfl)
theorem dX9_dropFrom_49 : decode cX9_dropFrom 49 = .ok (.istore 4, 2) := dk_54 4 (dk_at dksX9_dropFrom_2 4 rfl rfl)
theorem dX9_dropFrom_51 : decode cX9_dropFrom 51 = .ok (.aload_n 0, 1) := dk_42 (dk_at dksX9_dropFrom_2 6 rfl rfl)
theorem dX9_dropFrom_52 : decode cX9_dropFrom 52 = .ok (.getfield 22, 3) := dk_180 0 22 (dk_at dksX9_dropFrom_2 7 rfl rfl)
theorem dX9_dropFrom_55 : decode cX9_dropFrom 55 = .ok (.iload_n 3, 1) := dk_29 (dk_at dksX9_dropFrom_2 10 rfl rfl)
theorem dX9_dropFrom_56 : decode cX9_dropFrom 56 = .ok (.iload 4, 2) := dk_21 4 (dk_at dksX9_dropFrom_2 11 rfl rfl)
theorem dX9_dropFrom_58 : decode cX9_dropFrom 58 = .ok (.ifCond .eq 7, 3) := dk_153 0 7 (dk_at dksX9_dropFrom_2 13 rfl rfl)
theorem dX9_dropFrom_61 : decode cX9_dropFrom 61 = .ok (.iconst 0, 1) := dk_3 (dk_at dksX9_dropFrom_2 16 rfl rfl)
theorem dX9_dropFrom_62 : decode cX9_dropFrom 62 = .ok (.goto 9, 3) := dk_167 0 9 (dk_at dksX9_dropFrom_2 17 rfl rfl)
theorem dX9_dropFrom_65 : decode cX9_dropFrom 65 = .ok (.aload_n 0, 1) := dk_42 (dk_at dksX9_dropFrom_2 20 rfl rfl)
theorem dX9_dropFrom_66 : decode cX9_dropFrom 66 = .ok (.getfield 22, 3) := dk_180 0 22 (dk_at dksX9_dropFrom_2 21 rfl rfl)
theorem dX9_dropFrom_69 : decode cX9_dropFrom 69 = .ok (.iload_n 3, 1) := dk_29 (dk_at dksX9_dropFrom_3 0 rfl rfl)
theorem dX9_dropFrom_70 : decode cX9_dropFrom 70 = .ok (.iaload, 1) := dk_46 (dk_at dksX9_dropFrom_3 1 rfl rfl)
theorem dX9_dropFrom_71 : decode cX9_dropFrom 71 = .ok (.iastore, 1) := dk_79 (dk_at dksX9_dropFrom_3 2 rfl rfl)
theorem dX9_dropFrom_72 : decode cX9_dropFrom 72 = .ok (.iload_n 2, 1) := dk_28 (dk_at dksX9_dropFrom_3 3 rfl rfl)
theorem dX9_dropFrom_73 : decode cX9_dropFrom 73 = .ok (.iload 4, 2) := dk_21 4 (dk_at dksX9_dropFrom_3 4 rfl rfl)
theorem dX9_dropFrom_75 : decode cX9_dropFrom 75 = .ok (.ifCond .eq 7, 3) := dk_153 0 7 (dk_at dksX9_dropFrom_3 6 rfl rfl)
theorem dX9_dropFrom_78 : decode cX9_dropFrom 78 = .ok (.iconst 1, 1) := dk_4 (dk_at dksX9_dropFrom_3 9 rfl rfl)
theorem dX9_dropFrom_79 : decode cX9_dropFrom 79 = .ok (.goto 4, 3) := dk_167 0 4 (dk_at dksX9_dropFrom_3 10 rfl rfl)
theorem dX9_dropFrom_82 : decode cX9_dropFrom 82 = .ok (.iconst 0, 1) := dk_3 (dk_at dksX9_dropFrom_3 13 rfl rfl)
theorem dX9_dropFrom_83 : decode cX9_dropFrom 83 = .ok (.iadd, 1) := dk_96 (dk_at dksX9_dropFrom_3 14 rfl rfl)
theorem dX9_dropFrom_84 : decode cX9_dropFrom 84 = .ok (.istore_n 2, 1) := dk_61 (dk_at dksX9_dropFrom_3 15 rfl rfl)
theorem dX9_dropFrom_85 : decode cX9_dropFrom 85 = .ok (.iinc 3 1, 3) := dk_132 3 1 (dk_at dksX9_dropFrom_3 16 rfl rfl)
theorem dX9_dropFrom_88 : decode cX9_dropFrom 88 = .ok (.goto (-80), 3) := dk_167 255 176 (dk_at dksX9_dropFrom_3 19 rfl rfl)
theorem dX9_dropFrom_91 : decode cX9_dropFrom 91 = .ok (.iload_n 2, 1) := dk_28 (dk_at dksX9_dropFrom_3 22 rfl rfl)
theorem dX9_dropFrom_92 : decode cX9_dropFrom 92 = .ok (.ireturn, 1) := dk_172 (dk_at dksX9_dropFrom_3 23 rfl rfl)
abbrev cX9_split : ByteArray := prog_11_method_17_code
def yX9_split : MethodName := ⟨RX9, "split", "()V"⟩
def dkwX9_split_0 : List UInt8 := [42, 42, 180, 0, 7, 16, 64, 46, 182, 0, 82, 177]
abbrev dktX9_split_0 : List UInt8 := dkwX9_split_0 ++ []
theorem dksX9_split_0 : cX9_split.data.toList.drop 0 = dktX9_split_0 := by decide +kernel
theorem dX9_split_0 : decode cX9_split 0 = .ok (.aload_n 0, 1) := dk_42 (dk_at dksX9_split_0 0 rfl rfl)
theorem dX9_split_1 : decode cX9_split 1 = .ok (.aload_n 0, 1) := dk_42 (dk_at dksX9_split_0 1 rfl rfl)
theorem dX9_split_2 : decode cX9_split 2 = .ok (.getfield 7, 3) := dk_180 0 7 (dk_at dksX9_split_0 2 rfl rfl)
theorem dX9_split_5 : decode cX9_split 5 = .ok (.bipush 64, 2) := dk_16 64 (dk_at dksX9_split_0 5 rfl rfl)
theorem dX9_split_7 : decode cX9_split 7 = .ok (.iaload, 1) := dk_46 (dk_at dksX9_split_0 7 rfl rfl)
theorem dX9_split_8 : decode cX9_split 8 = .ok (.invokevirtual 82, 3) := dk_182 0 82 (dk_at dksX9_split_0 8 rfl rfl)
theorem dX9_split_11 : decode cX9_split 11 = .ok (.return_, 1) := dk_177 (dk_at dksX9_split_0 11 rfl rfl)
abbrev cX9_splitBy : ByteArray := prog_11_method_16_code
def yX9_splitBy : MethodName := ⟨RX9, "splitBy", "(I)V"⟩
def dkwX9_splitBy_4 : List UInt8 := [177]
abbrev dktX9_splitBy_4 : List UInt8 := dkwX9_splitBy_4 ++ []
def dkwX9_splitBy_3 : List UInt8 := [162, 0, 18, 42, 21, 4, 16, 8, 29, 182, 0, 78, 132, 4, 1, 167, 255, 238, 132, 2, 1, 167, 255, 193]
abbrev dktX9_splitBy_3 : List UInt8 := dkwX9_splitBy_3 ++ dktX9_splitBy_4
def dkwX9_splitBy_2 : List UInt8 := [42, 16, 8, 21, 4, 104, 4, 29, 182, 0, 78, 132, 4, 1, 167, 255, 236, 3, 54, 4, 21, 4, 29]
abbrev dktX9_splitBy_2 : List UInt8 := dkwX9_splitBy_2 ++ dktX9_splitBy_3
def dkwX9_splitBy_1 : List UInt8 := [167, 255, 235, 3, 61, 28, 27, 162, 0, 64, 16, 8, 28, 122, 62, 3, 54, 4, 21, 4, 29, 162, 0, 20]
abbrev dktX9_splitBy_1 : List UInt8 := dkwX9_splitBy_1 ++ dktX9_splitBy_2
def dkwX9_splitBy_0 : List UInt8 := [3, 61, 28, 16, 64, 162, 0, 21, 42, 180, 0, 22, 28, 42, 180, 0, 7, 28, 46, 79, 132, 2, 1]
abbrev dktX9_splitBy_0 : List UInt8 := dkwX9_splitBy_0 ++ dktX9_splitBy_1
theorem dksX9_splitBy_0 : cX9_splitBy.data.toList.drop 0 = dktX9_splitBy_0 := by decide +kernel
theorem dksX9_splitBy_1 : cX9_splitBy.data.toList.drop 23 = dktX9_splitBy_1 := dk_seg dksX9_splitBy_0 23 rfl rfl
theorem dksX9_splitBy_2 : cX9_splitBy.data.toList.drop 47 = dktX9_splitBy_2 := dk_seg dksX9_splitBy_1 24 rfl rfl
theorem dksX9_splitBy_3 : cX9_splitBy.data.toList.drop 70 = dktX9_splitBy_3 := dk_seg dksX9_splitBy_2 23 rfl rfl
theorem dksX9_splitBy_4 : cX9_splitBy.data.toList.drop 94 = dktX9_splitBy_4 := dk_seg dksX9_splitBy_3 24 rfl rfl
theorem dX9_splitBy_0 : decode cX9_splitBy 0 = .ok (.iconst 0, 1) := dk_3 (dk_at dksX9_splitBy_0 0 rfl rfl)
theorem dX9_splitBy_1 : decode cX9_splitBy 1 = .ok (.istore_n 2, 1) := dk_61 (dk_at dksX9_splitBy_0 1 rfl rfl)
theorem dX9_splitBy_2 : decode cX9_splitBy 2 = .ok (.iload_n 2, 1) := dk_28 (dk_at dksX9_splitBy_0 2 rfl rfl)
theorem dX9_splitBy_3 : decode cX9_splitBy 3 = .ok (.bipush 64, 2) := dk_16 64 (dk_at dksX9_splitBy_0 3 rfl rfl)
theorem dX9_splitBy_5 : decode cX9_splitBy 5 = .ok (.if_icmp .ge 21, 3) := dk_162 0 21 (dk_at dksX9_splitBy_0 5 rfl rfl)
theorem dX9_splitBy_8 : decode cX9_splitBy 8 = .ok (.aload_n 0, 1) := dk_42 (dk_at dksX9_splitBy_0 8 rfl rfl)
theorem dX9_splitBy_9 : decode cX9_splitBy 9 = .ok (.getfield 22, 3) := dk_180 0 22 (dk_at dksX9_splitBy_0 9 rfl rfl)
theorem dX9_splitBy_12 : decode cX9_splitBy 12 = .ok (.iload_n 2, 1) := dk_28 (dk_at dksX9_splitBy_0 12 rfl rfl)
theorem dX9_splitBy_13 : decode cX9_splitBy 13 = .ok (.aload_n 0, 1) := dk_42 (dk_at dksX9_splitBy_0 13 rfl rfl)
theorem dX9_splitBy_14 : decode cX9_splitBy 14 = .ok (.getfield 7, 3) := dk_180 0 7 (dk_at dksX9_splitBy_0 14 rfl rfl)
theorem dX9_splitBy_17 : decode cX9_splitBy 17 = .ok (.iload_n 2, 1) := dk_28 (dk_at dksX9_splitBy_0 17 rfl rfl)
theorem dX9_splitBy_18 : decode cX9_splitBy 18 = .ok (.iaload, 1) := dk_46 (dk_at dksX9_splitBy_0 18 rfl rfl)
theorem dX9_splitBy_19 : decode cX9_splitBy 19 = .ok (.iastore, 1) := dk_79 (dk_at dksX9_splitBy_0 19 rfl rfl)
theorem dX9_splitBy_20 : decode cX9_splitBy 20 = .ok (.iinc 2 1, 3) := dk_132 2 1 (dk_at dksX9_splitBy_0 20 rfl rfl)
theorem dX9_splitBy_23 : decode cX9_splitBy 23 = .ok (.goto (-21), 3) := dk_167 255 235 (dk_at dksX9_splitBy_1 0 rfl rfl)
theorem dX9_splitBy_26 : decode cX9_splitBy 26 = .ok (.iconst 0, 1) := dk_3 (dk_at dksX9_splitBy_1 3 rfl rfl)
theorem dX9_splitBy_27 : decode cX9_splitBy 27 = .ok (.istore_n 2, 1) := dk_61 (dk_at dksX9_splitBy_1 4 rfl rfl)
theorem dX9_splitBy_28 : decode cX9_splitBy 28 = .ok (.iload_n 2, 1) := dk_28 (dk_at dksX9_splitBy_1 5 rfl rfl)
theorem dX9_splitBy_29 : decode cX9_splitBy 29 = .ok (.iload_n 1, 1) := dk_27 (dk_at dksX9_splitBy_1 6 rfl rfl)
theorem dX9_splitBy_30 : decode cX9_splitBy 30 = .ok (.if_icmp .ge 64, 3) := dk_162 0 64 (dk_at dksX9_splitBy_1 7 rfl rfl)
theorem dX9_splitBy_33 : decode cX9_splitBy 33 = .ok (.bipush 8, 2) := dk_16 8 (dk_at dksX9_splitBy_1 10 rfl rfl)
theorem dX9_splitBy_35 : decode cX9_splitBy 35 = .ok (.iload_n 2, 1) := dk_28 (dk_at dksX9_splitBy_1 12 rfl rfl)
theorem dX9_splitBy_36 : decode cX9_splitBy 36 = .ok (.ishr, 1) := dk_122 (dk_at dksX9_splitBy_1 13 rfl rfl)
theorem dX9_splitBy_37 : decode cX9_splitBy 37 = .ok (.istore_n 3, 1) := dk_62 (dk_at dksX9_splitBy_1 14 rfl rfl)
theorem dX9_splitBy_38 : decode cX9_splitBy 38 = .ok (.iconst 0, 1) := dk_3 (dk_at dksX9_splitBy_1 15 rfl rfl)
theorem dX9_splitBy_39 : decode cX9_splitBy 39 = .ok (.istore 4, 2) := dk_54 4 (dk_at dksX9_splitBy_1 16 rfl rfl)
theorem dX9_splitBy_41 : decode cX9_splitBy 41 = .ok (.iload 4, 2) := dk_21 4 (dk_at dksX9_splitBy_1 18 rfl rfl)
theorem dX9_splitBy_43 : decode cX9_splitBy 43 = .ok (.iload_n 3, 1) := dk_29 (dk_at dksX9_splitBy_1 20 rfl rfl)
theorem dX9_splitBy_44 : decode cX9_splitBy 44 = .ok (.if_icmp .ge 20, 3) := dk_162 0 20 (dk_at dksX9_splitBy_1 21 rfl rfl)
theorem dX9_splitBy_47 : decode cX9_splitBy 47 = .ok (.aload_n 0, 1) := dk_42 (dk_at dksX9_splitBy_2 0 rfl rfl)
theorem dX9_splitBy_48 : decode cX9_splitBy 48 = .ok (.bipush 8, 2) := dk_16 8 (dk_at dksX9_splitBy_2 1 rfl rfl)
theorem dX9_splitBy_50 : decode cX9_splitBy 50 = .ok (.iload 4, 2) := dk_21 4 (dk_at dksX9_splitBy_2 3 rfl rfl)
theorem dX9_splitBy_52 : decode cX9_splitBy 52 = .ok (.imul, 1) := dk_104 (dk_at dksX9_splitBy_2 5 rfl rfl)
theorem dX9_splitBy_53 : decode cX9_splitBy 53 = .ok (.iconst 1, 1) := dk_4 (dk_at dksX9_splitBy_2 6 rfl rfl)
theorem dX9_splitBy_54 : decode cX9_splitBy 54 = .ok (.iload_n 3, 1) := dk_29 (dk_at dksX9_splitBy_2 7 rfl rfl)
theorem dX9_splitBy_55 : decode cX9_splitBy 55 = .ok (.invokevirtual 78, 3) := dk_182 0 78 (dk_at dksX9_splitBy_2 8 rfl rfl)
theorem dX9_splitBy_58 : decode cX9_splitBy 58 = .ok (.iinc 4 1, 3) := dk_132 4 1 (dk_at dksX9_splitBy_2 11 rfl rfl)
theorem dX9_splitBy_61 : decode cX9_splitBy 61 = .ok (.goto (-20), 3) := dk_167 255 236 (dk_at dksX9_splitBy_2 14 rfl rfl)
theorem dX9_splitBy_64 : decode cX9_splitBy 64 = .ok (.iconst 0, 1) := dk_3 (dk_at dksX9_splitBy_2 17 rfl rfl)
theorem dX9_splitBy_65 : decode cX9_splitBy 65 = .ok (.istore 4, 2) := dk_54 4 (dk_at dksX9_splitBy_2 18 rfl rfl)
theorem dX9_splitBy_67 : decode cX9_splitBy 67 = .ok (.iload 4, 2) := dk_21 4 (dk_at dksX9_splitBy_2 20 rfl rfl)
theorem dX9_splitBy_69 : decode cX9_splitBy 69 = .ok (.iload_n 3, 1) := dk_29 (dk_at dksX9_splitBy_2 22 rfl rfl)
theorem dX9_splitBy_70 : decode cX9_splitBy 70 = .ok (.if_icmp .ge 18, 3) := dk_162 0 18 (dk_at dksX9_splitBy_3 0 rfl rfl)
theorem dX9_splitBy_73 : decode cX9_splitBy 73 = .ok (.aload_n 0, 1) := dk_42 (dk_at dksX9_splitBy_3 3 rfl rfl)
theorem dX9_splitBy_74 : decode cX9_splitBy 74 = .ok (.iload 4, 2) := dk_21 4 (dk_at dksX9_splitBy_3 4 rfl rfl)
theorem dX9_splitBy_76 : decode cX9_splitBy 76 = .ok (.bipush 8, 2) := dk_16 8 (dk_at dksX9_splitBy_3 6 rfl rfl)
theorem dX9_splitBy_78 : decode cX9_splitBy 78 = .ok (.iload_n 3, 1) := dk_29 (dk_at dksX9_splitBy_3 8 rfl rfl)
theorem dX9_splitBy_79 : decode cX9_splitBy 79 = .ok (.invokevirtual 78, 3) := dk_182 0 78 (dk_at dksX9_splitBy_3 9 rfl rfl)
theorem dX9_splitBy_82 : decode cX9_splitBy 82 = .ok (.iinc 4 1, 3) := dk_132 4 1 (dk_at dksX9_splitBy_3 12 rfl rfl)
theorem dX9_splitBy_85 : decode cX9_splitBy 85 = .ok (.goto (-18), 3) := dk_167 255 238 (dk_at dksX9_splitBy_3 15 rfl rfl)
theorem dX9_splitBy_88 : decode cX9_splitBy 88 = .ok (.iinc 2 1, 3) := dk_132 2 1 (dk_at dksX9_splitBy_3 18 rfl rfl)
theorem dX9_splitBy_91 : decode cX9_splitBy 91 = .ok (.goto (-63), 3) := dk_167 255 193 (dk_at dksX9_splitBy_3 21 rfl rfl)
theorem dX9_splitBy_94 : decode cX9_splitBy 94 = .ok (.return_, 1) := dk_177 (dk_at dksX9_splitBy_4 0 rfl rfl)
abbrev cX9_splitLine : ByteArray := prog_11_method_14_code
def yX9_splitLine : MethodName := ⟨RX9, "splitLine", "(III)V"⟩
def dkwX9_splitLine_4 : List UInt8 := [28, 104, 96, 42, 180, 0, 28, 21, 4, 46, 79, 132, 4, 1, 167, 255, 229, 177]
abbrev dktX9_splitLine_4 : List UInt8 := dkwX9_splitLine_4 ++ []
def dkwX9_splitLine_3 : List UInt8 := [100, 79, 132, 4, 1, 167, 255, 183, 3, 54, 4, 21, 4, 29, 162, 0, 27, 42, 180, 0, 22, 27, 21, 4]
abbrev dktX9_splitLine_3 : List UInt8 := dkwX9_splitLine_3 ++ dktX9_splitLine_4
def dkwX9_splitLine_2 : List UInt8 := [21, 4, 21, 5, 21, 6, 96, 4, 122, 79, 42, 180, 0, 28, 29, 5, 108, 21, 4, 96, 21, 5, 21, 6]
abbrev dktX9_splitLine_2 : List UInt8 := dkwX9_splitLine_2 ++ dktX9_splitLine_3
def dkwX9_splitLine_1 : List UInt8 := [54, 5, 42, 180, 0, 22, 27, 5, 21, 4, 104, 4, 96, 28, 104, 96, 46, 54, 6, 42, 180, 0, 28]
abbrev dktX9_splitLine_1 : List UInt8 := dkwX9_splitLine_1 ++ dktX9_splitLine_2
def dkwX9_splitLine_0 : List UInt8 := [3, 54, 4, 21, 4, 29, 5, 108, 162, 0, 71, 42, 180, 0, 22, 27, 5, 21, 4, 104, 28, 104, 96, 46]
abbrev dktX9_splitLine_0 : List UInt8 := dkwX9_splitLine_0 ++ dktX9_splitLine_1
theorem dksX9_splitLine_0 : cX9_splitLine.data.toList.drop 0 = dktX9_splitLine_0 := by decide +kernel
theorem dksX9_splitLine_1 : cX9_splitLine.data.toList.drop 24 = dktX9_splitLine_1 := dk_seg dksX9_splitLine_0 24 rfl rfl
theorem dksX9_splitLine_2 : cX9_splitLine.data.toList.drop 47 = dktX9_splitLine_2 := dk_seg dksX9_splitLine_1 23 rfl rfl
theorem dksX9_splitLine_3 : cX9_splitLine.data.toList.drop 71 = dktX9_splitLine_3 := dk_seg dksX9_splitLine_2 24 rfl rfl
theorem dksX9_splitLine_4 : cX9_splitLine.data.toList.drop 95 = dktX9_splitLine_4 := dk_seg dksX9_splitLine_3 24 rfl rfl
theorem dX9_splitLine_0 : decode cX9_splitLine 0 = .ok (.iconst 0, 1) := dk_3 (dk_at dksX9_splitLine_0 0 rfl rfl)
theorem dX9_splitLine_1 : decode cX9_splitLine 1 = .ok (.istore 4, 2) := dk_54 4 (dk_at dksX9_splitLine_0 1 rfl rfl)
theorem dX9_splitLine_3 : decode cX9_splitLine 3 = .ok (.iload 4, 2) := dk_21 4 (dk_at dksX9_splitLine_0 3 rfl rfl)
theorem dX9_splitLine_5 : decode cX9_splitLine 5 = .ok (.iload_n 3, 1) := dk_29 (dk_at dksX9_splitLine_0 5 rfl rfl)
theorem dX9_splitLine_6 : decode cX9_splitLine 6 = .ok (.iconst 2, 1) := dk_5 (dk_at dksX9_splitLine_0 6 rfl rfl)
theorem dX9_splitLine_7 : decode cX9_splitLine 7 = .ok (.idiv, 1) := dk_108 (dk_at dksX9_splitLine_0 7 rfl rfl)
theorem dX9_splitLine_8 : decode cX9_splitLine 8 = .ok (.if_icmp .ge 71, 3) := dk_162 0 71 (dk_at dksX9_splitLine_0 8 rfl rfl)
theorem dX9_splitLine_11 : decode cX9_splitLine 11 = .ok (.aload_n 0, 1) := dk_42 (dk_at dksX9_splitLine_0 11 rfl rfl)
theorem dX9_splitLine_12 : decode cX9_splitLine 12 = .ok (.getfield 22, 3) := dk_180 0 22 (dk_at dksX9_splitLine_0 12 rfl rfl)
theorem dX9_splitLine_15 : decode cX9_splitLine 15 = .ok (.iload_n 1, 1) := dk_27 (dk_at dksX9_splitLine_0 15 rfl rfl)
theorem dX9_splitLine_16 : decode cX9_splitLine 16 = .ok (.iconst 2, 1) := dk_5 (dk_at dksX9_splitLine_0 16 rfl rfl)
theorem dX9_splitLine_17 : decode cX9_splitLine 17 = .ok (.iload 4, 2) := dk_21 4 (dk_at dksX9_splitLine_0 17 rfl rfl)
theorem dX9_splitLine_19 : decode cX9_splitLine 19 = .ok (.imul, 1) := dk_104 (dk_at dksX9_splitLine_0 19 rfl rfl)
theorem dX9_splitLine_20 : decode cX9_splitLine 20 = .ok (.iload_n 2, 1) := dk_28 (dk_at dksX9_splitLine_0 20 rfl rfl)
theorem dX9_splitLine_21 : decode cX9_splitLine 21 = .ok (.imul, 1) := dk_104 (dk_at dksX9_splitLine_0 21 rfl rfl)
theorem dX9_splitLine_22 : decode cX9_splitLine 22 = .ok (.iadd, 1) := dk_96 (dk_at dksX9_splitLine_0 22 rfl rfl)
theorem dX9_splitLine_23 : decode cX9_splitLine 23 = .ok (.iaload, 1) := dk_46 (dk_at dksX9_splitLine_0 23 rfl rfl)
theorem dX9_splitLine_24 : decode cX9_splitLine 24 = .ok (.istore 5, 2) := dk_54 5 (dk_at dksX9_splitLine_1 0 rfl rfl)
theorem dX9_splitLine_26 : decode cX9_splitLine 26 = .ok (.aload_n 0, 1) := dk_42 (dk_at dksX9_splitLine_1 2 rfl rfl)
theorem dX9_splitLine_27 : decode cX9_splitLine 27 = .ok (.getfield 22, 3) := dk_180 0 22 (dk_at dksX9_splitLine_1 3 rfl rfl)
theorem dX9_splitLine_30 : decode cX9_splitLine 30 = .ok (.iload_n 1, 1) := dk_27 (dk_at dksX9_splitLine_1 6 rfl rfl)
theorem dX9_splitLine_31 : decode cX9_splitLine 31 = .ok (.iconst 2, 1) := dk_5 (dk_at dksX9_splitLine_1 7 rfl rfl)
theorem dX9_splitLine_32 : decode cX9_splitLine 32 = .ok (.iload 4, 2) := dk_21 4 (dk_at dksX9_splitLine_1 8 rfl rfl)
theorem dX9_splitLine_34 : decode cX9_splitLine 34 = .ok (.imul, 1) := dk_104 (dk_at dksX9_splitLine_1 10 rfl rfl)
theorem dX9_splitLine_35 : decode cX9_splitLine 35 = .ok (.iconst 1, 1) := dk_4 (dk_at dksX9_splitLine_1 11 rfl rfl)
theorem dX9_splitLine_36 : decode cX9_splitLine 36 = .ok (.iadd, 1) := dk_96 (dk_at dksX9_splitLine_1 12 rfl rfl)
theorem dX9_splitLine_37 : decode cX9_splitLine 37 = .ok (.iload_n 2, 1) := dk_28 (dk_at dksX9_splitLine_1 13 rfl rfl)
theorem dX9_splitLine_38 : decode cX9_splitLine 38 = .ok (.imul, 1) := dk_104 (dk_at dksX9_splitLine_1 14 rfl rfl)
theorem dX9_splitLine_39 : decode cX9_splitLine 39 = .ok (.iadd, 1) := dk_96 (dk_at dksX9_splitLine_1 15 rfl rfl)
theorem dX9_splitLine_40 : decode cX9_splitLine 40 = .ok (.iaload, 1) := dk_46 (dk_at dksX9_splitLine_1 16 rfl rfl)
theorem dX9_splitLine_41 : decode cX9_splitLine 41 = .ok (.istore 6, 2) := dk_54 6 (dk_at dksX9_splitLine_1 17 rfl rfl)
theorem dX9_splitLine_43 : decode cX9_splitLine 43 = .ok (.aload_n 0, 1) := dk_42 (dk_at dksX9_splitLine_1 19 rfl rfl)
theorem dX9_splitLine_44 : decode cX9_splitLine 44 = .ok (.getfield 28, 3) := dk_180 0 28 (dk_at dksX9_splitLine_1 20 rfl rfl)
theorem dX9_splitLine_47 : decode cX9_splitLine 47 = .ok (.iload 4, 2) := dk_21 4 (dk_at dksX9_splitLine_2 0 rfl rfl)
theorem dX9_splitLine_49 : decode cX9_splitLine 49 = .ok (.iload 5, 2) := dk_21 5 (dk_at dksX9_splitLine_2 2 rfl rfl)
theorem dX9_splitLine_51 : decode cX9_splitLine 51 = .ok (.iload 6, 2) := dk_21 6 (dk_at dksX9_splitLine_2 4 rfl rfl)
theorem dX9_splitLine_53 : decode cX9_splitLine 53 = .ok (.iadd, 1) := dk_96 (dk_at dksX9_splitLine_2 6 rfl rfl)
theorem dX9_splitLine_54 : decode cX9_splitLine 54 = .ok (.iconst 1, 1) := dk_4 (dk_at dksX9_splitLine_2 7 rfl rfl)
theorem dX9_splitLine_55 : decode cX9_splitLine 55 = .ok (.ishr, 1) := dk_122 (dk_at dksX9_splitLine_2 8 rfl rfl)
theorem dX9_splitLine_56 : decode cX9_splitLine 56 = .ok (.iastore, 1) := dk_79 (dk_at dksX9_splitLine_2 9 rfl rfl)
theorem dX9_splitLine_57 : decode cX9_splitLine 57 = .ok (.aload_n 0, 1) := dk_42 (dk_at dksX9_splitLine_2 10 rfl rfl)
theorem dX9_splitLine_58 : decode cX9_splitLine 58 = .ok (.getfield 28, 3) := dk_180 0 28 (dk_at dksX9_splitLine_2 11 rfl rfl)
theorem dX9_splitLine_61 : decode cX9_splitLine 61 = .ok (.iload_n 3, 1) := dk_29 (dk_at dksX9_splitLine_2 14 rfl rfl)
theorem dX9_splitLine_62 : decode cX9_splitLine 62 = .ok (.iconst 2, 1) := dk_5 (dk_at dksX9_splitLine_2 15 rfl rfl)
theorem dX9_splitLine_63 : decode cX9_splitLine 63 = .ok (.idiv, 1) := dk_108 (dk_at dksX9_splitLine_2 16 rfl rfl)
theorem dX9_splitLine_64 : decode cX9_splitLine 64 = .ok (.iload 4, 2) := dk_21 4 (dk_at dksX9_splitLine_2 17 rfl rfl)
theorem dX9_splitLine_66 : decode cX9_splitLine 66 = .ok (.iadd, 1) := dk_96 (dk_at dksX9_splitLine_2 19 rfl rfl)
theorem dX9_splitLine_67 : decode cX9_splitLine 67 = .ok (.iload 5, 2) := dk_21 5 (dk_at dksX9_splitLine_2 20 rfl rfl)
theorem dX9_splitLine_69 : decode cX9_splitLine 69 = .ok (.iload 6, 2) := dk_21 6 (dk_at dksX9_splitLine_2 22 rfl rfl)
theorem dX9_splitLine_71 : decode cX9_splitLine 71 = .ok (.isub, 1) := dk_100 (dk_at dksX9_splitLine_3 0 rfl rfl)
theorem dX9_splitLine_72 : decode cX9_splitLine 72 = .ok (.iastore, 1) := dk_79 (dk_at dksX9_splitLine_3 1 rfl rfl)
theorem dX9_splitLine_73 : decode cX9_splitLine 73 = .ok (.iinc 4 1, 3) := dk_132 4 1 (dk_at dksX9_splitLine_3 2 rfl rfl)
theorem dX9_splitLine_76 : decode cX9_splitLine 76 = .ok (.goto (-73), 3) := dk_167 255 183 (dk_at dksX9_splitLine_3 5 rfl rfl)
theorem dX9_splitLine_79 : decode cX9_splitLine 79 = .ok (.iconst 0, 1) := dk_3 (dk_at dksX9_splitLine_3 8 rfl rfl)
theorem dX9_splitLine_80 : decode cX9_splitLine 80 = .ok (.istore 4, 2) := dk_54 4 (dk_at dksX9_splitLine_3 9 rfl rfl)
theorem dX9_splitLine_82 : decode cX9_splitLine 82 = .ok (.iload 4, 2) := dk_21 4 (dk_at dksX9_splitLine_3 11 rfl rfl)
theorem dX9_splitLine_84 : decode cX9_splitLine 84 = .ok (.iload_n 3, 1) := dk_29 (dk_at dksX9_splitLine_3 13 rfl rfl)
theorem dX9_splitLine_85 : decode cX9_splitLine 85 = .ok (.if_icmp .ge 27, 3) := dk_162 0 27 (dk_at dksX9_splitLine_3 14 rfl rfl)
theorem dX9_splitLine_88 : decode cX9_splitLine 88 = .ok (.aload_n 0, 1) := dk_42 (dk_at dksX9_splitLine_3 17 rfl rfl)
theorem dX9_splitLine_89 : decode cX9_splitLine 89 = .ok (.getfield 22, 3) := dk_180 0 22 (dk_at dksX9_splitLine_3 18 rfl rfl)
theorem dX9_splitLine_92 : decode cX9_splitLine 92 = .ok (.iload_n 1, 1) := dk_27 (dk_at dksX9_splitLine_3 21 rfl rfl)
theorem dX9_splitLine_93 : decode cX9_splitLine 93 = .ok (.iload 4, 2) := dk_21 4 (dk_at dksX9_splitLine_3 22 rfl rfl)
theorem dX9_splitLine_95 : decode cX9_splitLine 95 = .ok (.iload_n 2, 1) := dk_28 (dk_at dksX9_splitLine_4 0 rfl rfl)
theorem dX9_splitLine_96 : decode cX9_splitLine 96 = .ok (.imul, 1) := dk_104 (dk_at dksX9_splitLine_4 1 rfl rfl)
theorem dX9_splitLine_97 : decode cX9_splitLine 97 = .ok (.iadd, 1) := dk_96 (dk_at dksX9_splitLine_4 2 rfl rfl)
theorem dX9_splitLine_98 : decode cX9_splitLine 98 = .ok (.aload_n 0, 1) := dk_42 (dk_at dksX9_splitLine_4 3 rfl rfl)
theorem dX9_splitLine_99 : decode cX9_splitLine 99 = .ok (.getfield 28, 3) := dk_180 0 28 (dk_at dksX9_splitLine_4 4 rfl rfl)
theorem dX9_splitLine_102 : decode cX9_splitLine 102 = .ok (.iload 4, 2) := dk_21 4 (dk_at dksX9_splitLine_4 7 rfl rfl)
theorem dX9_splitLine_104 : decode cX9_splitLine 104 = .ok (.iaload, 1) := dk_46 (dk_at dksX9_splitLine_4 9 rfl rfl)
theorem dX9_splitLine_105 : decode cX9_splitLine 105 = .ok (.iastore, 1) := dk_79 (dk_at dksX9_splitLine_4 10 rfl rfl)
theorem dX9_splitLine_106 : decode cX9_splitLine 106 = .ok (.iinc 4 1, 3) := dk_132 4 1 (dk_at dksX9_splitLine_4 11 rfl rfl)
theorem dX9_splitLine_109 : decode cX9_splitLine 109 = .ok (.goto (-27), 3) := dk_167 255 229 (dk_at dksX9_splitLine_4 14 rfl rfl)
theorem dX9_splitLine_112 : decode cX9_splitLine 112 = .ok (.return_, 1) := dk_177 (dk_at dksX9_splitLine_4 17 rfl rfl)
abbrev cX9_isDifference : ByteArray := prog_11_method_24_code
def yX9_isDifference : MethodName := ⟨RX9, "isDifference", "(I)Z"⟩
def dkwX9_isDifference_0 : List UInt8 := [27, 42, 180, 0, 7, 16, 64, 46, 184, 0, 93, 158, 0, 7, 4, 167, 0, 4, 3, 172]
abbrev dktX9_isDifference_0 : List UInt8 := dkwX9_isDifference_0 ++ []
theorem dksX9_isDifference_0 : cX9_isDifference.data.toList.drop 0 = dktX9_isDifference_0 := by decide +kernel
theorem dX9_isDifference_0 : decode cX9_isDifference 0 = .ok (.iload_n 1, 1) := dk_27 (dk_at dksX9_isDifference_0 0 rfl rfl)
theorem dX9_isDifference_1 : decode cX9_isDifference 1 = .ok (.aload_n 0, 1) := dk_42 (dk_at dksX9_isDifference_0 1 rfl rfl)
theorem dX9_isDifference_2 : decode cX9_isDifference 2 = .ok (.getfield 7, 3) := dk_180 0 7 (dk_at dksX9_isDifference_0 2 rfl rfl)
theorem dX9_isDifference_5 : decode cX9_isDifference 5 = .ok (.bipush 64, 2) := dk_16 64 (dk_at dksX9_isDifference_0 5 rfl rfl)
theorem dX9_isDifference_7 : decode cX9_isDifference 7 = .ok (.iaload, 1) := dk_46 (dk_at dksX9_isDifference_0 7 rfl rfl)
theorem dX9_isDifference_8 : decode cX9_isDifference 8 = .ok (.invokestatic 93, 3) := dk_184 0 93 (dk_at dksX9_isDifference_0 8 rfl rfl)
theorem dX9_isDifference_11 : decode cX9_isDifference 11 = .ok (.ifCond .le 7, 3) := dk_158 0 7 (dk_at dksX9_isDifference_0 11 rfl rfl)
theorem dX9_isDifference_14 : decode cX9_isDifference 14 = .ok (.iconst 1, 1) := dk_4 (dk_at dksX9_isDifference_0 14 rfl rfl)
theorem dX9_isDifference_15 : decode cX9_isDifference 15 = .ok (.goto 4, 3) := dk_167 0 4 (dk_at dksX9_isDifference_0 15 rfl rfl)
theorem dX9_isDifference_18 : decode cX9_isDifference 18 = .ok (.iconst 0, 1) := dk_3 (dk_at dksX9_isDifference_0 18 rfl rfl)
theorem dX9_isDifference_19 : decode cX9_isDifference 19 = .ok (.ireturn, 1) := dk_172 (dk_at dksX9_isDifference_0 19 rfl rfl)
abbrev cX9_band : ByteArray := prog_11_method_20_code
def yX9_band : MethodName := ⟨RX9, "band", "(II)I"⟩
def dkwX9_band_2 : List UInt8 := [167, 0, 11, 6, 28, 4, 100, 104, 21, 4, 96, 172]
abbrev dktX9_band_2 : List UInt8 := dkwX9_band_2 ++ []
def dkwX9_band_1 : List UInt8 := [26, 16, 8, 108, 29, 161, 0, 7, 5, 167, 0, 4, 3, 96, 54, 4, 21, 4, 154, 0, 7, 3]
abbrev dktX9_band_1 : List UInt8 := dkwX9_band_1 ++ dktX9_band_2
def dkwX9_band_0 : List UInt8 := [26, 27, 184, 0, 89, 61, 16, 8, 28, 122, 62, 26, 16, 8, 112, 29, 161, 0, 7, 4, 167, 0, 4, 3]
abbrev dktX9_band_0 : List UInt8 := dkwX9_band_0 ++ dktX9_band_1
theorem dksX9_band_0 : cX9_band.data.toList.drop 0 = dktX9_band_0 := by decide +kernel
theorem dksX9_band_1 : cX9_band.data.toList.drop 24 = dktX9_band_1 := dk_seg dksX9_band_0 24 rfl rfl
theorem dksX9_band_2 : cX9_band.data.toList.drop 46 = dktX9_band_2 := dk_seg dksX9_band_1 22 rfl rfl
theorem dX9_band_0 : decode cX9_band 0 = .ok (.iload_n 0, 1) := dk_26 (dk_at dksX9_band_0 0 rfl rfl)
theorem dX9_band_1 : decode cX9_band 1 = .ok (.iload_n 1, 1) := dk_27 (dk_at dksX9_band_0 1 rfl rfl)
theorem dX9_band_2 : decode cX9_band 2 = .ok (.invokestatic 89, 3) := dk_184 0 89 (dk_at dksX9_band_0 2 rfl rfl)
theorem dX9_band_5 : decode cX9_band 5 = .ok (.istore_n 2, 1) := dk_61 (dk_at dksX9_band_0 5 rfl rfl)
theorem dX9_band_6 : decode cX9_band 6 = .ok (.bipush 8, 2) := dk_16 8 (dk_at dksX9_band_0 6 rfl rfl)
theorem dX9_band_8 : decode cX9_band 8 = .ok (.iload_n 2, 1) := dk_28 (dk_at dksX9_band_0 8 rfl rfl)
theorem dX9_band_9 : decode cX9_band 9 = .ok (.ishr, 1) := dk_122 (dk_at dksX9_band_0 9 rfl rfl)
theorem dX9_band_10 : decode cX9_band 10 = .ok (.istore_n 3, 1) := dk_62 (dk_at dksX9_band_0 10 rfl rfl)
theorem dX9_band_11 : decode cX9_band 11 = .ok (.iload_n 0, 1) := dk_26 (dk_at dksX9_band_0 11 rfl rfl)
theorem dX9_band_12 : decode cX9_band 12 = .ok (.bipush 8, 2) := dk_16 8 (dk_at dksX9_band_0 12 rfl rfl)
theorem dX9_band_14 : decode cX9_band 14 = .ok (.irem, 1) := dk_112 (dk_at dksX9_band_0 14 rfl rfl)
theorem dX9_band_15 : decode cX9_band 15 = .ok (.iload_n 3, 1) := dk_29 (dk_at dksX9_band_0 15 rfl rfl)
theorem dX9_band_16 : decode cX9_band 16 = .ok (.if_icmp .lt 7, 3) := dk_161 0 7 (dk_at dksX9_band_0 16 rfl rfl)
theorem dX9_band_19 : decode cX9_band 19 = .ok (.iconst 1, 1) := dk_4 (dk_at dksX9_band_0 19 rfl rfl)
theorem dX9_band_20 : decode cX9_band 20 = .ok (.goto 4, 3) := dk_167 0 4 (dk_at dksX9_band_0 20 rfl rfl)
theorem dX9_band_23 : decode cX9_band 23 = .ok (.iconst 0, 1) := dk_3 (dk_at dksX9_band_0 23 rfl rfl)
theorem dX9_band_24 : decode cX9_band 24 = .ok (.iload_n 0, 1) := dk_26 (dk_at dksX9_band_1 0 rfl rfl)
theorem dX9_band_25 : decode cX9_band 25 = .ok (.bipush 8, 2) := dk_16 8 (dk_at dksX9_band_1 1 rfl rfl)
theorem dX9_band_27 : decode cX9_band 27 = .ok (.idiv, 1) := dk_108 (dk_at dksX9_band_1 3 rfl rfl)
theorem dX9_band_28 : decode cX9_band 28 = .ok (.iload_n 3, 1) := dk_29 (dk_at dksX9_band_1 4 rfl rfl)
theorem dX9_band_29 : decode cX9_band 29 = .ok (.if_icmp .lt 7, 3) := dk_161 0 7 (dk_at dksX9_band_1 5 rfl rfl)
theorem dX9_band_32 : decode cX9_band 32 = .ok (.iconst 2, 1) := dk_5 (dk_at dksX9_band_1 8 rfl rfl)
theorem dX9_band_33 : decode cX9_band 33 = .ok (.goto 4, 3) := dk_167 0 4 (dk_at dksX9_band_1 9 rfl rfl)
theorem dX9_band_36 : decode cX9_band 36 = .ok (.iconst 0, 1) := dk_3 (dk_at dksX9_band_1 12 rfl rfl)
theorem dX9_band_37 : decode cX9_band 37 = .ok (.iadd, 1) := dk_96 (dk_at dksX9_band_1 13 rfl rfl)
theorem dX9_band_38 : decode cX9_band 38 = .ok (.istore 4, 2) := dk_54 4 (dk_at dksX9_band_1 14 rfl rfl)
theorem dX9_band_40 : decode cX9_band 40 = .ok (.iload 4, 2) := dk_21 4 (dk_at dksX9_band_1 16 rfl rfl)
theorem dX9_band_42 : decode cX9_band 42 = .ok (.ifCond .ne 7, 3) := dk_154 0 7 (dk_at dksX9_band_1 18 rfl rfl)
theorem dX9_band_45 : decode cX9_band 45 = .ok (.iconst 0, 1) := dk_3 (dk_at dksX9_band_1 21 rfl rfl)
theorem dX9_band_46 : decode cX9_band 46 = .ok (.goto 11, 3) := dk_167 0 11 (dk_at dksX9_band_2 0 rfl rfl)
theorem dX9_band_49 : decode cX9_band 49 = .ok (.iconst 3, 1) := dk_6 (dk_at dksX9_band_2 3 rfl rfl)
theorem dX9_band_50 : decode cX9_band 50 = .ok (.iload_n 2, 1) := dk_28 (dk_at dksX9_band_2 4 rfl rfl)
theorem dX9_band_51 : decode cX9_band 51 = .ok (.iconst 1, 1) := dk_4 (dk_at dksX9_band_2 5 rfl rfl)
theorem dX9_band_52 : decode cX9_band 52 = .ok (.isub, 1) := dk_100 (dk_at dksX9_band_2 6 rfl rfl)
theorem dX9_band_53 : decode cX9_band 53 = .ok (.imul, 1) := dk_104 (dk_at dksX9_band_2 7 rfl rfl)
theorem dX9_band_54 : decode cX9_band 54 = .ok (.iload 4, 2) := dk_21 4 (dk_at dksX9_band_2 8 rfl rfl)
theorem dX9_band_56 : decode cX9_band 56 = .ok (.iadd, 1) := dk_96 (dk_at dksX9_band_2 10 rfl rfl)
theorem dX9_band_57 : decode cX9_band 57 = .ok (.ireturn, 1) := dk_172 (dk_at dksX9_band_2 11 rfl rfl)
abbrev cX9_levelOf : ByteArray := prog_11_method_19_code
def yX9_levelOf : MethodName := ⟨RX9, "levelOf", "(II)I"⟩
def dkwX9_levelOf_1 : List UInt8 := [62, 29, 27, 162, 0, 17, 28, 16, 8, 29, 122, 162, 0, 9, 132, 3, 1, 167, 255, 240, 29, 172]
abbrev dktX9_levelOf_1 : List UInt8 := dkwX9_levelOf_1 ++ []
def dkwX9_levelOf_0 : List UInt8 := [26, 16, 8, 108, 26, 16, 8, 112, 164, 0, 10, 26, 16, 8, 108, 167, 0, 7, 26, 16, 8, 112, 61, 4]
abbrev dktX9_levelOf_0 : List UInt8 := dkwX9_levelOf_0 ++ dktX9_levelOf_1
theorem dksX9_levelOf_0 : cX9_levelOf.data.toList.drop 0 = dktX9_levelOf_0 := by decide +kernel
theorem dksX9_levelOf_1 : cX9_levelOf.data.toList.drop 24 = dktX9_levelOf_1 := dk_seg dksX9_levelOf_0 24 rfl rfl
theorem dX9_levelOf_0 : decode cX9_levelOf 0 = .ok (.iload_n 0, 1) := dk_26 (dk_at dksX9_levelOf_0 0 rfl rfl)
theorem dX9_levelOf_1 : decode cX9_levelOf 1 = .ok (.bipush 8, 2) := dk_16 8 (dk_at dksX9_levelOf_0 1 rfl rfl)
theorem dX9_levelOf_3 : decode cX9_levelOf 3 = .ok (.idiv, 1) := dk_108 (dk_at dksX9_levelOf_0 3 rfl rfl)
theorem dX9_levelOf_4 : decode cX9_levelOf 4 = .ok (.iload_n 0, 1) := dk_26 (dk_at dksX9_levelOf_0 4 rfl rfl)
theorem dX9_levelOf_5 : decode cX9_levelOf 5 = .ok (.bipush 8, 2) := dk_16 8 (dk_at dksX9_levelOf_0 5 rfl rfl)
theorem dX9_levelOf_7 : decode cX9_levelOf 7 = .ok (.irem, 1) := dk_112 (dk_at dksX9_levelOf_0 7 rfl rfl)
theorem dX9_levelOf_8 : decode cX9_levelOf 8 = .ok (.if_icmp .le 10, 3) := dk_164 0 10 (dk_at dksX9_levelOf_0 8 rfl rfl)
theorem dX9_levelOf_11 : decode cX9_levelOf 11 = .ok (.iload_n 0, 1) := dk_26 (dk_at dksX9_levelOf_0 11 rfl rfl)
theorem dX9_levelOf_12 : decode cX9_levelOf 12 = .ok (.bipush 8, 2) := dk_16 8 (dk_at dksX9_levelOf_0 12 rfl rfl)
theorem dX9_levelOf_14 : decode cX9_levelOf 14 = .ok (.idiv, 1) := dk_108 (dk_at dksX9_levelOf_0 14 rfl rfl)
theorem dX9_levelOf_15 : decode cX9_levelOf 15 = .ok (.goto 7, 3) := dk_167 0 7 (dk_at dksX9_levelOf_0 15 rfl rfl)
theorem dX9_levelOf_18 : decode cX9_levelOf 18 = .ok (.iload_n 0, 1) := dk_26 (dk_at dksX9_levelOf_0 18 rfl rfl)
theorem dX9_levelOf_19 : decode cX9_levelOf 19 = .ok (.bipush 8, 2) := dk_16 8 (dk_at dksX9_levelOf_0 19 rfl rfl)
theorem dX9_levelOf_21 : decode cX9_levelOf 21 = .ok (.irem, 1) := dk_112 (dk_at dksX9_levelOf_0 21 rfl rfl)
theorem dX9_levelOf_22 : decode cX9_levelOf 22 = .ok (.istore_n 2, 1) := dk_61 (dk_at dksX9_levelOf_0 22 rfl rfl)
theorem dX9_levelOf_23 : decode cX9_levelOf 23 = .ok (.iconst 1, 1) := dk_4 (dk_at dksX9_levelOf_0 23 rfl rfl)
theorem dX9_levelOf_24 : decode cX9_levelOf 24 = .ok (.istore_n 3, 1) := dk_62 (dk_at dksX9_levelOf_1 0 rfl rfl)
theorem dX9_levelOf_25 : decode cX9_levelOf 25 = .ok (.iload_n 3, 1) := dk_29 (dk_at dksX9_levelOf_1 1 rfl rfl)
theorem dX9_levelOf_26 : decode cX9_levelOf 26 = .ok (.iload_n 1, 1) := dk_27 (dk_at dksX9_levelOf_1 2 rfl rfl)
theorem dX9_levelOf_27 : decode cX9_levelOf 27 = .ok (.if_icmp .ge 17, 3) := dk_162 0 17 (dk_at dksX9_levelOf_1 3 rfl rfl)
theorem dX9_levelOf_30 : decode cX9_levelOf 30 = .ok (.iload_n 2, 1) := dk_28 (dk_at dksX9_levelOf_1 6 rfl rfl)
theorem dX9_levelOf_31 : decode cX9_levelOf 31 = .ok (.bipush 8, 2) := dk_16 8 (dk_at dksX9_levelOf_1 7 rfl rfl)
theorem dX9_levelOf_33 : decode cX9_levelOf 33 = .ok (.iload_n 3, 1) := dk_29 (dk_at dksX9_levelOf_1 9 rfl rfl)
theorem dX9_levelOf_34 : decode cX9_levelOf 34 = .ok (.ishr, 1) := dk_122 (dk_at dksX9_levelOf_1 10 rfl rfl)
theorem dX9_levelOf_35 : decode cX9_levelOf 35 = .ok (.if_icmp .ge 9, 3) := dk_162 0 9 (dk_at dksX9_levelOf_1 11 rfl rfl)
theorem dX9_levelOf_38 : decode cX9_levelOf 38 = .ok (.iinc 3 1, 3) := dk_132 3 1 (dk_at dksX9_levelOf_1 14 rfl rfl)
theorem dX9_levelOf_41 : decode cX9_levelOf 41 = .ok (.goto (-16), 3) := dk_167 255 240 (dk_at dksX9_levelOf_1 17 rfl rfl)
theorem dX9_levelOf_44 : decode cX9_levelOf 44 = .ok (.iload_n 3, 1) := dk_29 (dk_at dksX9_levelOf_1 20 rfl rfl)
theorem dX9_levelOf_45 : decode cX9_levelOf 45 = .ok (.ireturn, 1) := dk_172 (dk_at dksX9_levelOf_1 21 rfl rfl)
abbrev cX9_size : ByteArray := prog_11_method_7_code
def yX9_size : MethodName := ⟨RX9, "size", "(I)I"⟩
def dkwX9_size_0 : List UInt8 := [26, 156, 0, 8, 26, 116, 167, 0, 4, 26, 172]
abbrev dktX9_size_0 : List UInt8 := dkwX9_size_0 ++ []
theorem dksX9_size_0 : cX9_size.data.toList.drop 0 = dktX9_size_0 := by decide +kernel
theorem dX9_size_0 : decode cX9_size 0 = .ok (.iload_n 0, 1) := dk_26 (dk_at dksX9_size_0 0 rfl rfl)
theorem dX9_size_1 : decode cX9_size 1 = .ok (.ifCond .ge 8, 3) := dk_156 0 8 (dk_at dksX9_size_0 1 rfl rfl)
theorem dX9_size_4 : decode cX9_size 4 = .ok (.iload_n 0, 1) := dk_26 (dk_at dksX9_size_0 4 rfl rfl)
theorem dX9_size_5 : decode cX9_size 5 = .ok (.ineg, 1) := dk_116 (dk_at dksX9_size_0 5 rfl rfl)
theorem dX9_size_6 : decode cX9_size 6 = .ok (.goto 4, 3) := dk_167 0 4 (dk_at dksX9_size_0 6 rfl rfl)
theorem dX9_size_9 : decode cX9_size 9 = .ok (.iload_n 0, 1) := dk_26 (dk_at dksX9_size_0 9 rfl rfl)
theorem dX9_size_10 : decode cX9_size 10 = .ok (.ireturn, 1) := dk_172 (dk_at dksX9_size_0 10 rfl rfl)
abbrev cX9_cost : ByteArray := prog_11_method_34_code
def yX9_cost : MethodName := ⟨RX9, "cost", "(I)I"⟩
def dkwX9_cost_1 : List UInt8 := [182, 0, 63, 172]
abbrev dktX9_cost_1 : List UInt8 := dkwX9_cost_1 ++ []
def dkwX9_cost_0 : List UInt8 := [42, 3, 181, 0, 52, 27, 184, 0, 127, 153, 0, 11, 42, 27, 182, 0, 124, 167, 0, 8, 42, 4]
abbrev dktX9_cost_0 : List UInt8 := dkwX9_cost_0 ++ dktX9_cost_1
theorem dksX9_cost_0 : cX9_cost.data.toList.drop 0 = dktX9_cost_0 := by decide +kernel
theorem dksX9_cost_1 : cX9_cost.data.toList.drop 22 = dktX9_cost_1 := dk_seg dksX9_cost_0 22 rfl rfl
theorem dX9_cost_0 : decode cX9_cost 0 = .ok (.aload_n 0, 1) := dk_42 (dk_at dksX9_cost_0 0 rfl rfl)
theorem dX9_cost_1 : decode cX9_cost 1 = .ok (.iconst 0, 1) := dk_3 (dk_at dksX9_cost_0 1 rfl rfl)
theorem dX9_cost_2 : decode cX9_cost 2 = .ok (.putfield 52, 3) := dk_181 0 52 (dk_at dksX9_cost_0 2 rfl rfl)
theorem dX9_cost_5 : decode cX9_cost 5 = .ok (.iload_n 1, 1) := dk_27 (dk_at dksX9_cost_0 5 rfl rfl)
theorem dX9_cost_6 : decode cX9_cost 6 = .ok (.invokestatic 127, 3) := dk_184 0 127 (dk_at dksX9_cost_0 6 rfl rfl)
theorem dX9_cost_9 : decode cX9_cost 9 = .ok (.ifCond .eq 11, 3) := dk_153 0 11 (dk_at dksX9_cost_0 9 rfl rfl)
theorem dX9_cost_12 : decode cX9_cost 12 = .ok (.aload_n 0, 1) := dk_42 (dk_at dksX9_cost_0 12 rfl rfl)
theorem dX9_cost_13 : decode cX9_cost 13 = .ok (.iload_n 1, 1) := dk_27 (dk_at dksX9_cost_0 13 rfl rfl)
theorem dX9_cost_14 : decode cX9_cost 14 = .ok (.invokevirtual 124, 3) := dk_182 0 124 (dk_at dksX9_cost_0 14 rfl rfl)
theorem dX9_cost_17 : decode cX9_cost 17 = .ok (.goto 8, 3) := dk_167 0 8 (dk_at dksX9_cost_0 17 rfl rfl)
theorem dX9_cost_20 : decode cX9_cost 20 = .ok (.aload_n 0, 1) := dk_42 (dk_at dksX9_cost_0 20 rfl rfl)
theorem dX9_cost_21 : decode cX9_cost 21 = .ok (.iconst 1, 1) := dk_4 (dk_at dksX9_cost_0 21 rfl rfl)
theorem dX9_cost_22 : decode cX9_cost 22 = .ok (.invokevirtual 63, 3) := dk_182 0 63 (dk_at dksX9_cost_1 0 rfl rfl)
theorem dX9_cost_25 : decode cX9_cost 25 = .ok (.ireturn, 1) := dk_172 (dk_at dksX9_cost_1 3 rfl rfl)
abbrev cX9_costBy : ByteArray := prog_11_method_29_code
def yX9_costBy : MethodName := ⟨RX9, "costBy", "(I)I"⟩
def dkwX9_costBy_0 : List UInt8 := [42, 27, 182, 0, 115, 61, 42, 182, 0, 118, 42, 182, 0, 121, 172]
abbrev dktX9_costBy_0 : List UInt8 := dkwX9_costBy_0 ++ []
theorem dksX9_costBy_0 : cX9_costBy.data.toList.drop 0 = dktX9_costBy_0 := by decide +kernel
theorem dX9_costBy_0 : decode cX9_costBy 0 = .ok (.aload_n 0, 1) := dk_42 (dk_at dksX9_costBy_0 0 rfl rfl)
theorem dX9_costBy_1 : decode cX9_costBy 1 = .ok (.iload_n 1, 1) := dk_27 (dk_at dksX9_costBy_0 1 rfl rfl)
theorem dX9_costBy_2 : decode cX9_costBy 2 = .ok (.invokevirtual 115, 3) := dk_182 0 115 (dk_at dksX9_costBy_0 2 rfl rfl)
theorem dX9_costBy_5 : decode cX9_costBy 5 = .ok (.istore_n 2, 1) := dk_61 (dk_at dksX9_costBy_0 5 rfl rfl)
theorem dX9_costBy_6 : decode cX9_costBy 6 = .ok (.aload_n 0, 1) := dk_42 (dk_at dksX9_costBy_0 6 rfl rfl)
theorem dX9_costBy_7 : decode cX9_costBy 7 = .ok (.invokevirtual 118, 3) := dk_182 0 118 (dk_at dksX9_costBy_0 7 rfl rfl)
theorem dX9_costBy_10 : decode cX9_costBy 10 = .ok (.aload_n 0, 1) := dk_42 (dk_at dksX9_costBy_0 10 rfl rfl)
theorem dX9_costBy_11 : decode cX9_costBy 11 = .ok (.invokevirtual 121, 3) := dk_182 0 121 (dk_at dksX9_costBy_0 11 rfl rfl)
theorem dX9_costBy_14 : decode cX9_costBy 14 = .ok (.ireturn, 1) := dk_172 (dk_at dksX9_costBy_0 14 rfl rfl)
abbrev cX9_joinClamped : ByteArray := prog_11_method_27_code
def yX9_joinClamped : MethodName := ⟨RX9, "joinClamped", "()V"⟩
def dkwX9_joinClamped_1 : List UInt8 := [184, 0, 112, 79, 132, 1, 1, 167, 255, 232, 177]
abbrev dktX9_joinClamped_1 : List UInt8 := dkwX9_joinClamped_1 ++ []
def dkwX9_joinClamped_0 : List UInt8 := [42, 182, 0, 109, 3, 60, 27, 16, 64, 162, 0, 24, 42, 180, 0, 25, 27, 42, 180, 0, 25, 27, 46]
abbrev dktX9_joinClamped_0 : List UInt8 := dkwX9_joinClamped_0 ++ dktX9_joinClamped_1
theorem dksX9_joinClamped_0 : cX9_joinClamped.data.toList.drop 0 = dktX9_joinClamped_0 := by decide +kernel
theorem dksX9_joinClamped_1 : cX9_joinClamped.data.toList.drop 23 = dktX9_joinClamped_1 := dk_seg dksX9_joinClamped_0 23 rfl rfl
theorem dX9_joinClamped_0 : decode cX9_joinClamped 0 = .ok (.aload_n 0, 1) := dk_42 (dk_at dksX9_joinClamped_0 0 rfl rfl)
theorem dX9_joinClamped_1 : decode cX9_joinClamped 1 = .ok (.invokevirtual 109, 3) := dk_182 0 109 (dk_at dksX9_joinClamped_0 1 rfl rfl)
theorem dX9_joinClamped_4 : decode cX9_joinClamped 4 = .ok (.iconst 0, 1) := dk_3 (dk_at dksX9_joinClamped_0 4 rfl rfl)
theorem dX9_joinClamped_5 : decode cX9_joinClamped 5 = .ok (.istore_n 1, 1) := dk_60 (dk_at dksX9_joinClamped_0 5 rfl rfl)
theorem dX9_joinClamped_6 : decode cX9_joinClamped 6 = .ok (.iload_n 1, 1) := dk_27 (dk_at dksX9_joinClamped_0 6 rfl rfl)
theorem dX9_joinClamped_7 : decode cX9_joinClamped 7 = .ok (.bipush 64, 2) := dk_16 64 (dk_at dksX9_joinClamped_0 7 rfl rfl)
theorem dX9_joinClamped_9 : decode cX9_joinClamped 9 = .ok (.if_icmp .ge 24, 3) := dk_162 0 24 (dk_at dksX9_joinClamped_0 9 rfl rfl)
theorem dX9_joinClamped_12 : decode cX9_joinClamped 12 = .ok (.aload_n 0, 1) := dk_42 (dk_at dksX9_joinClamped_0 12 rfl rfl)
theorem dX9_joinClamped_13 : decode cX9_joinClamped 13 = .ok (.getfield 25, 3) := dk_180 0 25 (dk_at dksX9_joinClamped_0 13 rfl rfl)
theorem dX9_joinClamped_16 : decode cX9_joinClamped 16 = .ok (.iload_n 1, 1) := dk_27 (dk_at dksX9_joinClamped_0 16 rfl rfl)
theorem dX9_joinClamped_17 : decode cX9_joinClamped 17 = .ok (.aload_n 0, 1) := dk_42 (dk_at dksX9_joinClamped_0 17 rfl rfl)
theorem dX9_joinClamped_18 : decode cX9_joinClamped 18 = .ok (.getfield 25, 3) := dk_180 0 25 (dk_at dksX9_joinClamped_0 18 rfl rfl)
theorem dX9_joinClamped_21 : decode cX9_joinClamped 21 = .ok (.iload_n 1, 1) := dk_27 (dk_at dksX9_joinClamped_0 21 rfl rfl)
theorem dX9_joinClamped_22 : decode cX9_joinClamped 22 = .ok (.iaload, 1) := dk_46 (dk_at dksX9_joinClamped_0 22 rfl rfl)
theorem dX9_joinClamped_23 : decode cX9_joinClamped 23 = .ok (.invokestatic 112, 3) := dk_184 0 112 (dk_at dksX9_joinClamped_1 0 rfl rfl)
theorem dX9_joinClamped_26 : decode cX9_joinClamped 26 = .ok (.iastore, 1) := dk_79 (dk_at dksX9_joinClamped_1 3 rfl rfl)
theorem dX9_joinClamped_27 : decode cX9_joinClamped 27 = .ok (.iinc 1 1, 3) := dk_132 1 1 (dk_at dksX9_joinClamped_1 4 rfl rfl)
theorem dX9_joinClamped_30 : decode cX9_joinClamped 30 = .ok (.goto (-24), 3) := dk_167 255 232 (dk_at dksX9_joinClamped_1 7 rfl rfl)
theorem dX9_joinClamped_33 : decode cX9_joinClamped 33 = .ok (.return_, 1) := dk_177 (dk_at dksX9_joinClamped_1 10 rfl rfl)
abbrev cX9_joinBack : ByteArray := prog_11_method_18_code
def yX9_joinBack : MethodName := ⟨RX9, "joinBack", "()V"⟩
def dkwX9_joinBack_4 : List UInt8 := [167, 255, 200, 177]
abbrev dktX9_joinBack_4 : List UInt8 := dkwX9_joinBack_4 ++ []
def dkwX9_joinBack_3 : List UInt8 := [162, 0, 19, 42, 16, 8, 29, 104, 4, 28, 182, 0, 86, 132, 3, 1, 167, 255, 238, 132, 1, 255]
abbrev dktX9_joinBack_3 : List UInt8 := dkwX9_joinBack_3 ++ dktX9_joinBack_4
def dkwX9_joinBack_2 : List UInt8 := [29, 28, 162, 0, 17, 42, 29, 16, 8, 28, 182, 0, 86, 132, 3, 1, 167, 255, 240, 3, 62, 29, 28]
abbrev dktX9_joinBack_2 : List UInt8 := dkwX9_joinBack_2 ++ dktX9_joinBack_3
def dkwX9_joinBack_1 : List UInt8 := [167, 255, 235, 42, 180, 0, 7, 16, 64, 46, 4, 100, 60, 27, 155, 0, 58, 16, 8, 27, 122, 61, 3, 62]
abbrev dktX9_joinBack_1 : List UInt8 := dkwX9_joinBack_1 ++ dktX9_joinBack_2
def dkwX9_joinBack_0 : List UInt8 := [3, 60, 27, 16, 64, 162, 0, 21, 42, 180, 0, 25, 27, 42, 180, 0, 22, 27, 46, 79, 132, 1, 1]
abbrev dktX9_joinBack_0 : List UInt8 := dkwX9_joinBack_0 ++ dktX9_joinBack_1
theorem dksX9_joinBack_0 : cX9_joinBack.data.toList.drop 0 = dktX9_joinBack_0 := by decide +kernel
theorem dksX9_joinBack_1 : cX9_joinBack.data.toList.drop 23 = dktX9_joinBack_1 := dk_seg dksX9_joinBack_0 23 rfl rfl
theorem dksX9_joinBack_2 : cX9_joinBack.data.toList.drop 47 = dktX9_joinBack_2 := dk_seg dksX9_joinBack_1 24 rfl rfl
theorem dksX9_joinBack_3 : cX9_joinBack.data.toList.drop 70 = dktX9_joinBack_3 := dk_seg dksX9_joinBack_2 23 rfl rfl
theorem dksX9_joinBack_4 : cX9_joinBack.data.toList.drop 92 = dktX9_joinBack_4 := dk_seg dksX9_joinBack_3 22 rfl rfl
theorem dX9_joinBack_0 : decode cX9_joinBack 0 = .ok (.iconst 0, 1) := dk_3 (dk_at dksX9_joinBack_0 0 rfl rfl)
theorem dX9_joinBack_1 : decode cX9_joinBack 1 = .ok (.istore_n 1, 1) := dk_60 (dk_at dksX9_joinBack_0 1 rfl rfl)
theorem dX9_joinBack_2 : decode cX9_joinBack 2 = .ok (.iload_n 1, 1) := dk_27 (dk_at dksX9_joinBack_0 2 rfl rfl)
theorem dX9_joinBack_3 : decode cX9_joinBack 3 = .ok (.bipush 64, 2) := dk_16 64 (dk_at dksX9_joinBack_0 3 rfl rfl)
theorem dX9_joinBack_5 : decode cX9_joinBack 5 = .ok (.if_icmp .ge 21, 3) := dk_162 0 21 (dk_at dksX9_joinBack_0 5 rfl rfl)
theorem dX9_joinBack_8 : decode cX9_joinBack 8 = .ok (.aload_n 0, 1) := dk_42 (dk_at dksX9_joinBack_0 8 rfl rfl)
theorem dX9_joinBack_9 : decode cX9_joinBack 9 = .ok (.getfield 25, 3) := dk_180 0 25 (dk_at dksX9_joinBack_0 9 rfl rfl)
theorem dX9_joinBack_12 : decode cX9_joinBack 12 = .ok (.iload_n 1, 1) := dk_27 (dk_at dksX9_joinBack_0 12 rfl rfl)
theorem dX9_joinBack_13 : decode cX9_joinBack 13 = .ok (.aload_n 0, 1) := dk_42 (dk_at dksX9_joinBack_0 13 rfl rfl)
theorem dX9_joinBack_14 : decode cX9_joinBack 14 = .ok (.getfield 22, 3) := dk_180 0 22 (dk_at dksX9_joinBack_0 14 rfl rfl)
theorem dX9_joinBack_17 : decode cX9_joinBack 17 = .ok (.iload_n 1, 1) := dk_27 (dk_at dksX9_joinBack_0 17 rfl rfl)
theorem dX9_joinBack_18 : decode cX9_joinBack 18 = .ok (.iaload, 1) := dk_46 (dk_at dksX9_joinBack_0 18 rfl rfl)
theorem dX9_joinBack_19 : decode cX9_joinBack 19 = .ok (.iastore, 1) := dk_79 (dk_at dksX9_joinBack_0 19 rfl rfl)
theorem dX9_joinBack_20 : decode cX9_joinBack 20 = .ok (.iinc 1 1, 3) := dk_132 1 1 (dk_at dksX9_joinBack_0 20 rfl rfl)
theorem dX9_joinBack_23 : decode cX9_joinBack 23 = .ok (.goto (-21), 3) := dk_167 255 235 (dk_at dksX9_joinBack_1 0 rfl rfl)
theorem dX9_joinBack_26 : decode cX9_joinBack 26 = .ok (.aload_n 0, 1) := dk_42 (dk_at dksX9_joinBack_1 3 rfl rfl)
theorem dX9_joinBack_27 : decode cX9_joinBack 27 = .ok (.getfield 7, 3) := dk_180 0 7 (dk_at dksX9_joinBack_1 4 rfl rfl)
theorem dX9_joinBack_30 : decode cX9_joinBack 30 = .ok (.bipush 64, 2) := dk_16 64 (dk_at dksX9_joinBack_1 7 rfl rfl)
theorem dX9_joinBack_32 : decode cX9_joinBack 32 = .ok (.iaload, 1) := dk_46 (dk_at dksX9_joinBack_1 9 rfl rfl)
theorem dX9_joinBack_33 : decode cX9_joinBack 33 = .ok (.iconst 1, 1) := dk_4 (dk_at dksX9_joinBack_1 10 rfl rfl)
theorem dX9_joinBack_34 : decode cX9_joinBack 34 = .ok (.isub, 1) := dk_100 (dk_at dksX9_joinBack_1 11 rfl rfl)
theorem dX9_joinBack_35 : decode cX9_joinBack 35 = .ok (.istore_n 1, 1) := dk_60 (dk_at dksX9_joinBack_1 12 rfl rfl)
theorem dX9_joinBack_36 : decode cX9_joinBack 36 = .ok (.iload_n 1, 1) := dk_27 (dk_at dksX9_joinBack_1 13 rfl rfl)
theorem dX9_joinBack_37 : decode cX9_joinBack 37 = .ok (.ifCond .lt 58, 3) := dk_155 0 58 (dk_at dksX9_joinBack_1 14 rfl rfl)
theorem dX9_joinBack_40 : decode cX9_joinBack 40 = .ok (.bipush 8, 2) := dk_16 8 (dk_at dksX9_joinBack_1 17 rfl rfl)
theorem dX9_joinBack_42 : decode cX9_joinBack 42 = .ok (.iload_n 1, 1) := dk_27 (dk_at dksX9_joinBack_1 19 rfl rfl)
theorem dX9_joinBack_43 : decode cX9_joinBack 43 = .ok (.ishr, 1) := dk_122 (dk_at dksX9_joinBack_1 20 rfl rfl)
theorem dX9_joinBack_44 : decode cX9_joinBack 44 = .ok (.istore_n 2, 1) := dk_61 (dk_at dksX9_joinBack_1 21 rfl rfl)
theorem dX9_joinBack_45 : decode cX9_joinBack 45 = .ok (.iconst 0, 1) := dk_3 (dk_at dksX9_joinBack_1 22 rfl rfl)
theorem dX9_joinBack_46 : decode cX9_joinBack 46 = .ok (.istore_n 3, 1) := dk_62 (dk_at dksX9_joinBack_1 23 rfl rfl)
theorem dX9_joinBack_47 : decode cX9_joinBack 47 = .ok (.iload_n 3, 1) := dk_29 (dk_at dksX9_joinBack_2 0 rfl rfl)
theorem dX9_joinBack_48 : decode cX9_joinBack 48 = .ok (.iload_n 2, 1) := dk_28 (dk_at dksX9_joinBack_2 1 rfl rfl)
theorem dX9_joinBack_49 : decode cX9_joinBack 49 = .ok (.if_icmp .ge 17, 3) := dk_162 0 17 (dk_at dksX9_joinBack_2 2 rfl rfl)
theorem dX9_joinBack_52 : decode cX9_joinBack 52 = .ok (.aload_n 0, 1) := dk_42 (dk_at dksX9_joinBack_2 5 rfl rfl)
theorem dX9_joinBack_53 : decode cX9_joinBack 53 = .ok (.iload_n 3, 1) := dk_29 (dk_at dksX9_joinBack_2 6 rfl rfl)
theorem dX9_joinBack_54 : decode cX9_joinBack 54 = .ok (.bipush 8, 2) := dk_16 8 (dk_at dksX9_joinBack_2 7 rfl rfl)
theorem dX9_joinBack_56 : decode cX9_joinBack 56 = .ok (.iload_n 2, 1) := dk_28 (dk_at dksX9_joinBack_2 9 rfl rfl)
theorem dX9_joinBack_57 : decode cX9_joinBack 57 = .ok (.invokevirtual 86, 3) := dk_182 0 86 (dk_at dksX9_joinBack_2 10 rfl rfl)
theorem dX9_joinBack_60 : decode cX9_joinBack 60 = .ok (.iinc 3 1, 3) := dk_132 3 1 (dk_at dksX9_joinBack_2 13 rfl rfl)
theorem dX9_joinBack_63 : decode cX9_joinBack 63 = .ok (.goto (-16), 3) := dk_167 255 240 (dk_at dksX9_joinBack_2 16 rfl rfl)
theorem dX9_joinBack_66 : decode cX9_joinBack 66 = .ok (.iconst 0, 1) := dk_3 (dk_at dksX9_joinBack_2 19 rfl rfl)
theorem dX9_joinBack_67 : decode cX9_joinBack 67 = .ok (.istore_n 3, 1) := dk_62 (dk_at dksX9_joinBack_2 20 rfl rfl)
theorem dX9_joinBack_68 : decode cX9_joinBack 68 = .ok (.iload_n 3, 1) := dk_29 (dk_at dksX9_joinBack_2 21 rfl rfl)
theorem dX9_joinBack_69 : decode cX9_joinBack 69 = .ok (.iload_n 2, 1) := dk_28 (dk_at dksX9_joinBack_2 22 rfl rfl)
theorem dX9_joinBack_70 : decode cX9_joinBack 70 = .ok (.if_icmp .ge 19, 3) := dk_162 0 19 (dk_at dksX9_joinBack_3 0 rfl rfl)
theorem dX9_joinBack_73 : decode cX9_joinBack 73 = .ok (.aload_n 0, 1) := dk_42 (dk_at dksX9_joinBack_3 3 rfl rfl)
theorem dX9_joinBack_74 : decode cX9_joinBack 74 = .ok (.bipush 8, 2) := dk_16 8 (dk_at dksX9_joinBack_3 4 rfl rfl)
theorem dX9_joinBack_76 : decode cX9_joinBack 76 = .ok (.iload_n 3, 1) := dk_29 (dk_at dksX9_joinBack_3 6 rfl rfl)
theorem dX9_joinBack_77 : decode cX9_joinBack 77 = .ok (.imul, 1) := dk_104 (dk_at dksX9_joinBack_3 7 rfl rfl)
theorem dX9_joinBack_78 : decode cX9_joinBack 78 = .ok (.iconst 1, 1) := dk_4 (dk_at dksX9_joinBack_3 8 rfl rfl)
theorem dX9_joinBack_79 : decode cX9_joinBack 79 = .ok (.iload_n 2, 1) := dk_28 (dk_at dksX9_joinBack_3 9 rfl rfl)
theorem dX9_joinBack_80 : decode cX9_joinBack 80 = .ok (.invokevirtual 86, 3) := dk_182 0 86 (dk_at dksX9_joinBack_3 10 rfl rfl)
theorem dX9_joinBack_83 : decode cX9_joinBack 83 = .ok (.iinc 3 1, 3) := dk_132 3 1 (dk_at dksX9_joinBack_3 13 rfl rfl)
theorem dX9_joinBack_86 : decode cX9_joinBack 86 = .ok (.goto (-18), 3) := dk_167 255 238 (dk_at dksX9_joinBack_3 16 rfl rfl)
theorem dX9_joinBack_89 : decode cX9_joinBack 89 = .ok (.iinc 1 (-1), 3) := dk_132 1 255 (dk_at dksX9_joinBack_3 19 rfl rfl)
theorem dX9_joinBack_92 : decode cX9_joinBack 92 = .ok (.goto (-56), 3) := dk_167 255 200 (dk_at dksX9_joinBack_4 0 rfl rfl)
theorem dX9_joinBack_95 : decode cX9_joinBack 95 = .ok (.return_, 1) := dk_177 (dk_at dksX9_joinBack_4 3 rfl rfl)
abbrev cX9_joinLine : ByteArray := prog_11_method_15_code
def yX9_joinLine : MethodName := ⟨RX9, "joinLine", "(III)V"⟩
def dkwX9_joinLine_4 : List UInt8 := [21, 4, 28, 104, 96, 42, 180, 0, 28, 21, 4, 46, 79, 132, 4, 1, 167, 255, 229, 177]
abbrev dktX9_joinLine_4 : List UInt8 := dkwX9_joinLine_4 ++ []
def dkwX9_joinLine_3 : List UInt8 := [21, 5, 100, 79, 132, 4, 1, 167, 255, 181, 3, 54, 4, 21, 4, 29, 162, 0, 27, 42, 180, 0, 25, 27]
abbrev dktX9_joinLine_3 : List UInt8 := dkwX9_joinLine_3 ++ dktX9_joinLine_4
def dkwX9_joinLine_2 : List UInt8 := [42, 180, 0, 28, 5, 21, 4, 104, 21, 6, 79, 42, 180, 0, 28, 5, 21, 4, 104, 4, 96, 21, 6]
abbrev dktX9_joinLine_2 : List UInt8 := dkwX9_joinLine_2 ++ dktX9_joinLine_3
def dkwX9_joinLine_1 : List UInt8 := [96, 46, 54, 5, 42, 180, 0, 25, 27, 21, 4, 28, 104, 96, 46, 21, 5, 4, 96, 4, 122, 96, 54, 6]
abbrev dktX9_joinLine_1 : List UInt8 := dkwX9_joinLine_1 ++ dktX9_joinLine_2
def dkwX9_joinLine_0 : List UInt8 := [3, 54, 4, 21, 4, 29, 5, 108, 162, 0, 73, 42, 180, 0, 25, 27, 29, 5, 108, 21, 4, 96, 28, 104]
abbrev dktX9_joinLine_0 : List UInt8 := dkwX9_joinLine_0 ++ dktX9_joinLine_1
theorem dksX9_joinLine_0 : cX9_joinLine.data.toList.drop 0 = dktX9_joinLine_0 := by decide +kernel
theorem dksX9_joinLine_1 : cX9_joinLine.data.toList.drop 24 = dktX9_joinLine_1 := dk_seg dksX9_joinLine_0 24 rfl rfl
theorem dksX9_joinLine_2 : cX9_joinLine.data.toList.drop 48 = dktX9_joinLine_2 := dk_seg dksX9_joinLine_1 24 rfl rfl
theorem dksX9_joinLine_3 : cX9_joinLine.data.toList.drop 71 = dktX9_joinLine_3 := dk_seg dksX9_joinLine_2 23 rfl rfl
theorem dksX9_joinLine_4 : cX9_joinLine.data.toList.drop 95 = dktX9_joinLine_4 := dk_seg dksX9_joinLine_3 24 rfl rfl
theorem dX9_joinLine_0 : decode cX9_joinLine 0 = .ok (.iconst 0, 1) := dk_3 (dk_at dksX9_joinLine_0 0 rfl rfl)
theorem dX9_joinLine_1 : decode cX9_joinLine 1 = .ok (.istore 4, 2) := dk_54 4 (dk_at dksX9_joinLine_0 1 rfl rfl)
theorem dX9_joinLine_3 : decode cX9_joinLine 3 = .ok (.iload 4, 2) := dk_21 4 (dk_at dksX9_joinLine_0 3 rfl rfl)
theorem dX9_joinLine_5 : decode cX9_joinLine 5 = .ok (.iload_n 3, 1) := dk_29 (dk_at dksX9_joinLine_0 5 rfl rfl)
theorem dX9_joinLine_6 : decode cX9_joinLine 6 = .ok (.iconst 2, 1) := dk_5 (dk_at dksX9_joinLine_0 6 rfl rfl)
theorem dX9_joinLine_7 : decode cX9_joinLine 7 = .ok (.idiv, 1) := dk_108 (dk_at dksX9_joinLine_0 7 rfl rfl)
theorem dX9_joinLine_8 : decode cX9_joinLine 8 = .ok (.if_icmp .ge 73, 3) := dk_162 0 73 (dk_at dksX9_joinLine_0 8 rfl rfl)
theorem dX9_joinLine_11 : decode cX9_joinLine 11 = .ok (.aload_n 0, 1) := dk_42 (dk_at dksX9_joinLine_0 11 rfl rfl)
theorem dX9_joinLine_12 : decode cX9_joinLine 12 = .ok (.getfield 25, 3) := dk_180 0 25 (dk_at dksX9_joinLine_0 12 rfl rfl)
theorem dX9_joinLine_15 : decode cX9_joinLine 15 = .ok (.iload_n 1, 1) := dk_27 (dk_at dksX9_joinLine_0 15 rfl rfl)
theorem dX9_joinLine_16 : decode cX9_joinLine 16 = .ok (.iload_n 3, 1) := dk_29 (dk_at dksX9_joinLine_0 16 rfl rfl)
theorem dX9_joinLine_17 : decode cX9_joinLine 17 = .ok (.iconst 2, 1) := dk_5 (dk_at dksX9_joinLine_0 17 rfl rfl)
theorem dX9_joinLine_18 : decode cX9_joinLine 18 = .ok (.idiv, 1) := dk_108 (dk_at dksX9_joinLine_0 18 rfl rfl)
theorem dX9_joinLine_19 : decode cX9_joinLine 19 = .ok (.iload 4, 2) := dk_21 4 (dk_at dksX9_joinLine_0 19 rfl rfl)
theorem dX9_joinLine_21 : decode cX9_joinLine 21 = .ok (.iadd, 1) := dk_96 (dk_at dksX9_joinLine_0 21 rfl rfl)
theorem dX9_joinLine_22 : decode cX9_joinLine 22 = .ok (.iload_n 2, 1) := dk_28 (dk_at dksX9_joinLine_0 22 rfl rfl)
theorem dX9_joinLine_23 : decode cX9_joinLine 23 = .ok (.imul, 1) := dk_104 (dk_at dksX9_joinLine_0 23 rfl rfl)
theorem dX9_joinLine_24 : decode cX9_joinLine 24 = .ok (.iadd, 1) := dk_96 (dk_at dksX9_joinLine_1 0 rfl rfl)
theorem dX9_joinLine_25 : decode cX9_joinLine 25 = .ok (.iaload, 1) := dk_46 (dk_at dksX9_joinLine_1 1 rfl rfl)
theorem dX9_joinLine_26 : decode cX9_joinLine 26 = .ok (.istore 5, 2) := dk_54 5 (dk_at dksX9_joinLine_1 2 rfl rfl)
theorem dX9_joinLine_28 : decode cX9_joinLine 28 = .ok (.aload_n 0, 1) := dk_42 (dk_at dksX9_joinLine_1 4 rfl rfl)
theorem dX9_joinLine_29 : decode cX9_joinLine 29 = .ok (.getfield 25, 3) := dk_180 0 25 (dk_at dksX9_joinLine_1 5 rfl rfl)
theorem dX9_joinLine_32 : decode cX9_joinLine 32 = .ok (.iload_n 1, 1) := dk_27 (dk_at dksX9_joinLine_1 8 rfl rfl)
theorem dX9_joinLine_33 : decode cX9_joinLine 33 = .ok (.iload 4, 2) := dk_21 4 (dk_at dksX9_joinLine_1 9 rfl rfl)
theorem dX9_joinLine_35 : decode cX9_joinLine 35 = .ok (.iload_n 2, 1) := dk_28 (dk_at dksX9_joinLine_1 11 rfl rfl)
theorem dX9_joinLine_36 : decode cX9_joinLine 36 = .ok (.imul, 1) := dk_104 (dk_at dksX9_joinLine_1 12 rfl rfl)
theorem dX9_joinLine_37 : decode cX9_joinLine 37 = .ok (.iadd, 1) := dk_96 (dk_at dksX9_joinLine_1 13 rfl rfl)
theorem dX9_joinLine_38 : decode cX9_joinLine 38 = .ok (.iaload, 1) := dk_46 (dk_at dksX9_joinLine_1 14 rfl rfl)
theorem dX9_joinLine_39 : decode cX9_joinLine 39 = .ok (.iload 5, 2) := dk_21 5 (dk_at dksX9_joinLine_1 15 rfl rfl)
theorem dX9_joinLine_41 : decode cX9_joinLine 41 = .ok (.iconst 1, 1) := dk_4 (dk_at dksX9_joinLine_1 17 rfl rfl)
theorem dX9_joinLine_42 : decode cX9_joinLine 42 = .ok (.iadd, 1) := dk_96 (dk_at dksX9_joinLine_1 18 rfl rfl)
theorem dX9_joinLine_43 : decode cX9_joinLine 43 = .ok (.iconst 1, 1) := dk_4 (dk_at dksX9_joinLine_1 19 rfl rfl)
theorem dX9_joinLine_44 : decode cX9_joinLine 44 = .ok (.ishr, 1) := dk_122 (dk_at dksX9_joinLine_1 20 rfl rfl)
theorem dX9_joinLine_45 : decode cX9_joinLine 45 = .ok (.iadd, 1) := dk_96 (dk_at dksX9_joinLine_1 21 rfl rfl)
theorem dX9_joinLine_46 : decode cX9_joinLine 46 = .ok (.istore 6, 2) := dk_54 6 (dk_at dksX9_joinLine_1 22 rfl rfl)
theorem dX9_joinLine_48 : decode cX9_joinLine 48 = .ok (.aload_n 0, 1) := dk_42 (dk_at dksX9_joinLine_2 0 rfl rfl)
theorem dX9_joinLine_49 : decode cX9_joinLine 49 = .ok (.getfield 28, 3) := dk_180 0 28 (dk_at dksX9_joinLine_2 1 rfl rfl)
theorem dX9_joinLine_52 : decode cX9_joinLine 52 = .ok (.iconst 2, 1) := dk_5 (dk_at dksX9_joinLine_2 4 rfl rfl)
theorem dX9_joinLine_53 : decode cX9_joinLine 53 = .ok (.iload 4, 2) := dk_21 4 (dk_at dksX9_joinLine_2 5 rfl rfl)
theorem dX9_joinLine_55 : decode cX9_joinLine 55 = .ok (.imul, 1) := dk_104 (dk_at dksX9_joinLine_2 7 rfl rfl)
theorem dX9_joinLine_56 : decode cX9_joinLine 56 = .ok (.iload 6, 2) := dk_21 6 (dk_at dksX9_joinLine_2 8 rfl rfl)
theorem dX9_joinLine_58 : decode cX9_joinLine 58 = .ok (.iastore, 1) := dk_79 (dk_at dksX9_joinLine_2 10 rfl rfl)
theorem dX9_joinLine_59 : decode cX9_joinLine 59 = .ok (.aload_n 0, 1) := dk_42 (dk_at dksX9_joinLine_2 11 rfl rfl)
theorem dX9_joinLine_60 : decode cX9_joinLine 60 = .ok (.getfield 28, 3) := dk_180 0 28 (dk_at dksX9_joinLine_2 12 rfl rfl)
theorem dX9_joinLine_63 : decode cX9_joinLine 63 = .ok (.iconst 2, 1) := dk_5 (dk_at dksX9_joinLine_2 15 rfl rfl)
theorem dX9_joinLine_64 : decode cX9_joinLine 64 = .ok (.iload 4, 2) := dk_21 4 (dk_at dksX9_joinLine_2 16 rfl rfl)
theorem dX9_joinLine_66 : decode cX9_joinLine 66 = .ok (.imul, 1) := dk_104 (dk_at dksX9_joinLine_2 18 rfl rfl)
theorem dX9_joinLine_67 : decode cX9_joinLine 67 = .ok (.iconst 1, 1) := dk_4 (dk_at dksX9_joinLine_2 19 rfl rfl)
theorem dX9_joinLine_68 : decode cX9_joinLine 68 = .ok (.iadd, 1) := dk_96 (dk_at dksX9_joinLine_2 20 rfl rfl)
theorem dX9_joinLine_69 : decode cX9_joinLine 69 = .ok (.iload 6, 2) := dk_21 6 (dk_at dksX9_joinLine_2 21 rfl rfl)
theorem dX9_joinLine_71 : decode cX9_joinLine 71 = .ok (.iload 5, 2) := dk_21 5 (dk_at dksX9_joinLine_3 0 rfl rfl)
theorem dX9_joinLine_73 : decode cX9_joinLine 73 = .ok (.isub, 1) := dk_100 (dk_at dksX9_joinLine_3 2 rfl rfl)
theorem dX9_joinLine_74 : decode cX9_joinLine 74 = .ok (.iastore, 1) := dk_79 (dk_at dksX9_joinLine_3 3 rfl rfl)
theorem dX9_joinLine_75 : decode cX9_joinLine 75 = .ok (.iinc 4 1, 3) := dk_132 4 1 (dk_at dksX9_joinLine_3 4 rfl rfl)
theorem dX9_joinLine_78 : decode cX9_joinLine 78 = .ok (.goto (-75), 3) := dk_167 255 181 (dk_at dksX9_joinLine_3 7 rfl rfl)
theorem dX9_joinLine_81 : decode cX9_joinLine 81 = .ok (.iconst 0, 1) := dk_3 (dk_at dksX9_joinLine_3 10 rfl rfl)
theorem dX9_joinLine_82 : decode cX9_joinLine 82 = .ok (.istore 4, 2) := dk_54 4 (dk_at dksX9_joinLine_3 11 rfl rfl)
theorem dX9_joinLine_84 : decode cX9_joinLine 84 = .ok (.iload 4, 2) := dk_21 4 (dk_at dksX9_joinLine_3 13 rfl rfl)
theorem dX9_joinLine_86 : decode cX9_joinLine 86 = .ok (.iload_n 3, 1) := dk_29 (dk_at dksX9_joinLine_3 15 rfl rfl)
theorem dX9_joinLine_87 : decode cX9_joinLine 87 = .ok (.if_icmp .ge 27, 3) := dk_162 0 27 (dk_at dksX9_joinLine_3 16 rfl rfl)
theorem dX9_joinLine_90 : decode cX9_joinLine 90 = .ok (.aload_n 0, 1) := dk_42 (dk_at dksX9_joinLine_3 19 rfl rfl)
theorem dX9_joinLine_91 : decode cX9_joinLine 91 = .ok (.getfield 25, 3) := dk_180 0 25 (dk_at dksX9_joinLine_3 20 rfl rfl)
theorem dX9_joinLine_94 : decode cX9_joinLine 94 = .ok (.iload_n 1, 1) := dk_27 (dk_at dksX9_joinLine_3 23 rfl rfl)
theorem dX9_joinLine_95 : decode cX9_joinLine 95 = .ok (.iload 4, 2) := dk_21 4 (dk_at dksX9_joinLine_4 0 rfl rfl)
theorem dX9_joinLine_97 : decode cX9_joinLine 97 = .ok (.iload_n 2, 1) := dk_28 (dk_at dksX9_joinLine_4 2 rfl rfl)
theorem dX9_joinLine_98 : decode cX9_joinLine 98 = .ok (.imul, 1) := dk_104 (dk_at dksX9_joinLine_4 3 rfl rfl)
theorem dX9_joinLine_99 : decode cX9_joinLine 99 = .ok (.iadd, 1) := dk_96 (dk_at dksX9_joinLine_4 4 rfl rfl)
theorem dX9_joinLine_100 : decode cX9_joinLine 100 = .ok (.aload_n 0, 1) := dk_42 (dk_at dksX9_joinLine_4 5 rfl rfl)
theorem dX9_joinLine_101 : decode cX9_joinLine 101 = .ok (.getfield 28, 3) := dk_180 0 28 (dk_at dksX9_joinLine_4 6 rfl rfl)
theorem dX9_joinLine_104 : decode cX9_joinLine 104 = .ok (.iload 4, 2) := dk_21 4 (dk_at dksX9_joinLine_4 9 rfl rfl)
theorem dX9_joinLine_106 : decode cX9_joinLine 106 = .ok (.iaload, 1) := dk_46 (dk_at dksX9_joinLine_4 11 rfl rfl)
theorem dX9_joinLine_107 : decode cX9_joinLine 107 = .ok (.iastore, 1) := dk_79 (dk_at dksX9_joinLine_4 12 rfl rfl)
theorem dX9_joinLine_108 : decode cX9_joinLine 108 = .ok (.iinc 4 1, 3) := dk_132 4 1 (dk_at dksX9_joinLine_4 13 rfl rfl)
theorem dX9_joinLine_111 : decode cX9_joinLine 111 = .ok (.goto (-27), 3) := dk_167 255 229 (dk_at dksX9_joinLine_4 16 rfl rfl)
theorem dX9_joinLine_114 : decode cX9_joinLine 114 = .ok (.return_, 1) := dk_177 (dk_at dksX9_joinLine_4 19 rfl rfl)
abbrev cX9_clamped : ByteArray := prog_11_method_26_code
def yX9_clamped : MethodName := ⟨RX9, "clamped", "(I)I"⟩
def dkwX9_clamped_0 : List UInt8 := [26, 156, 0, 7, 3, 167, 0, 17, 26, 17, 0, 255, 164, 0, 9, 17, 0, 255, 167, 0, 4, 26, 172]
abbrev dktX9_clamped_0 : List UInt8 := dkwX9_clamped_0 ++ []
theorem dksX9_clamped_0 : cX9_clamped.data.toList.drop 0 = dktX9_clamped_0 := by decide +kernel
theorem dX9_clamped_0 : decode cX9_clamped 0 = .ok (.iload_n 0, 1) := dk_26 (dk_at dksX9_clamped_0 0 rfl rfl)
theorem dX9_clamped_1 : decode cX9_clamped 1 = .ok (.ifCond .ge 7, 3) := dk_156 0 7 (dk_at dksX9_clamped_0 1 rfl rfl)
theorem dX9_clamped_4 : decode cX9_clamped 4 = .ok (.iconst 0, 1) := dk_3 (dk_at dksX9_clamped_0 4 rfl rfl)
theorem dX9_clamped_5 : decode cX9_clamped 5 = .ok (.goto 17, 3) := dk_167 0 17 (dk_at dksX9_clamped_0 5 rfl rfl)
theorem dX9_clamped_8 : decode cX9_clamped 8 = .ok (.iload_n 0, 1) := dk_26 (dk_at dksX9_clamped_0 8 rfl rfl)
theorem dX9_clamped_9 : decode cX9_clamped 9 = .ok (.sipush 255, 3) := dk_17 0 255 (dk_at dksX9_clamped_0 9 rfl rfl)
theorem dX9_clamped_12 : decode cX9_clamped 12 = .ok (.if_icmp .le 9, 3) := dk_164 0 9 (dk_at dksX9_clamped_0 12 rfl rfl)
theorem dX9_clamped_15 : decode cX9_clamped 15 = .ok (.sipush 255, 3) := dk_17 0 255 (dk_at dksX9_clamped_0 15 rfl rfl)
theorem dX9_clamped_18 : decode cX9_clamped 18 = .ok (.goto 4, 3) := dk_167 0 4 (dk_at dksX9_clamped_0 18 rfl rfl)
theorem dX9_clamped_21 : decode cX9_clamped 21 = .ok (.iload_n 0, 1) := dk_26 (dk_at dksX9_clamped_0 21 rfl rfl)
theorem dX9_clamped_22 : decode cX9_clamped 22 = .ok (.ireturn, 1) := dk_172 (dk_at dksX9_clamped_0 22 rfl rfl)
abbrev cX9_costOfBack : ByteArray := prog_11_method_28_code
def yX9_costOfBack : MethodName := ⟨RX9, "costOfBack", "()I"⟩
def dkwX9_costOfBack_1 : List UInt8 := [184, 0, 106, 96, 60, 132, 2, 1, 167, 255, 228, 27, 172]
abbrev dktX9_costOfBack_1 : List UInt8 := dkwX9_costOfBack_1 ++ []
def dkwX9_costOfBack_0 : List UInt8 := [3, 60, 3, 61, 28, 16, 64, 162, 0, 28, 27, 42, 180, 0, 25, 28, 46, 42, 180, 0, 7, 28, 46, 100]
abbrev dktX9_costOfBack_0 : List UInt8 := dkwX9_costOfBack_0 ++ dktX9_costOfBack_1
theorem dksX9_costOfBack_0 : cX9_costOfBack.data.toList.drop 0 = dktX9_costOfBack_0 := by decide +kernel
theorem dksX9_costOfBack_1 : cX9_costOfBack.data.toList.drop 24 = dktX9_costOfBack_1 := dk_seg dksX9_costOfBack_0 24 rfl rfl
theorem dX9_costOfBack_0 : decode cX9_costOfBack 0 = .ok (.iconst 0, 1) := dk_3 (dk_at dksX9_costOfBack_0 0 rfl rfl)
theorem dX9_costOfBack_1 : decode cX9_costOfBack 1 = .ok (.istore_n 1, 1) := dk_60 (dk_at dksX9_costOfBack_0 1 rfl rfl)
theorem dX9_costOfBack_2 : decode cX9_costOfBack 2 = .ok (.iconst 0, 1) := dk_3 (dk_at dksX9_costOfBack_0 2 rfl rfl)
theorem dX9_costOfBack_3 : decode cX9_costOfBack 3 = .ok (.istore_n 2, 1) := dk_61 (dk_at dksX9_costOfBack_0 3 rfl rfl)
theorem dX9_costOfBack_4 : decode cX9_costOfBack 4 = .ok (.iload_n 2, 1) := dk_28 (dk_at dksX9_costOfBack_0 4 rfl rfl)
theorem dX9_costOfBack_5 : decode cX9_costOfBack 5 = .ok (.bipush 64, 2) := dk_16 64 (dk_at dksX9_costOfBack_0 5 rfl rfl)
theorem dX9_costOfBack_7 : decode cX9_costOfBack 7 = .ok (.if_icmp .ge 28, 3) := dk_162 0 28 (dk_at dksX9_costOfBack_0 7 rfl rfl)
theorem dX9_costOfBack_10 : decode cX9_costOfBack 10 = .ok (.iload_n 1, 1) := dk_27 (dk_at dksX9_costOfBack_0 10 rfl rfl)
theorem dX9_costOfBack_11 : decode cX9_costOfBack 11 = .ok (.aload_n 0, 1) := dk_42 (dk_at dksX9_costOfBack_0 11 rfl rfl)
theorem dX9_costOfBack_12 : decode cX9_costOfBack 12 = .ok (.getfield 25, 3) := dk_180 0 25 (dk_at dksX9_costOfBack_0 12 rfl rfl)
theorem dX9_costOfBack_15 : decode cX9_costOfBack 15 = .ok (.iload_n 2, 1) := dk_28 (dk_at dksX9_costOfBack_0 15 rfl rfl)
theorem dX9_costOfBack_16 : decode cX9_costOfBack 16 = .ok (.iaload, 1) := dk_46 (dk_at dksX9_costOfBack_0 16 rfl rfl)
theorem dX9_costOfBack_17 : decode cX9_costOfBack 17 = .ok (.aload_n 0, 1) := dk_42 (dk_at dksX9_costOfBack_0 17 rfl rfl)
theorem dX9_costOfBack_18 : decode cX9_costOfBack 18 = .ok (.getfield 7, 3) := dk_180 0 7 (dk_at dksX9_costOfBack_0 18 rfl rfl)
theorem dX9_costOfBack_21 : decode cX9_costOfBack 21 = .ok (.iload_n 2, 1) := dk_28 (dk_at dksX9_costOfBack_0 21 rfl rfl)
theorem dX9_costOfBack_22 : decode cX9_costOfBack 22 = .ok (.iaload, 1) := dk_46 (dk_at dksX9_costOfBack_0 22 rfl rfl)
theorem dX9_costOfBack_23 : decode cX9_costOfBack 23 = .ok (.isub, 1) := dk_100 (dk_at dksX9_costOfBack_0 23 rfl rfl)
theorem dX9_costOfBack_24 : decode cX9_costOfBack 24 = .ok (.invokestatic 106, 3) := dk_184 0 106 (dk_at dksX9_costOfBack_1 0 rfl rfl)
theorem dX9_costOfBack_27 : decode cX9_costOfBack 27 = .ok (.iadd, 1) := dk_96 (dk_at dksX9_costOfBack_1 3 rfl rfl)
theorem dX9_costOfBack_28 : decode cX9_costOfBack 28 = .ok (.istore_n 1, 1) := dk_60 (dk_at dksX9_costOfBack_1 4 rfl rfl)
theorem dX9_costOfBack_29 : decode cX9_costOfBack 29 = .ok (.iinc 2 1, 3) := dk_132 2 1 (dk_at dksX9_costOfBack_1 5 rfl rfl)
theorem dX9_costOfBack_32 : decode cX9_costOfBack 32 = .ok (.goto (-28), 3) := dk_167 255 228 (dk_at dksX9_costOfBack_1 8 rfl rfl)
theorem dX9_costOfBack_35 : decode cX9_costOfBack 35 = .ok (.iload_n 1, 1) := dk_27 (dk_at dksX9_costOfBack_1 11 rfl rfl)
theorem dX9_costOfBack_36 : decode cX9_costOfBack 36 = .ok (.ireturn, 1) := dk_172 (dk_at dksX9_costOfBack_1 12 rfl rfl)
abbrev cX9_worst : ByteArray := prog_11_method_35_code
def yX9_worst : MethodName := ⟨RX9, "worst", "(I)I"⟩
def dkwX9_worst_1 : List UInt8 := [182, 0, 63, 172]
abbrev dktX9_worst_1 : List UInt8 := dkwX9_worst_1 ++ []
def dkwX9_worst_0 : List UInt8 := [42, 3, 181, 0, 52, 27, 184, 0, 127, 153, 0, 11, 42, 27, 182, 0, 130, 167, 0, 8, 42, 4]
abbrev dktX9_worst_0 : List UInt8 := dkwX9_worst_0 ++ dktX9_worst_1
theorem dksX9_worst_0 : cX9_worst.data.toList.drop 0 = dktX9_worst_0 := by decide +kernel
theorem dksX9_worst_1 : cX9_worst.data.toList.drop 22 = dktX9_worst_1 := dk_seg dksX9_worst_0 22 rfl rfl
theorem dX9_worst_0 : decode cX9_worst 0 = .ok (.aload_n 0, 1) := dk_42 (dk_at dksX9_worst_0 0 rfl rfl)
theorem dX9_worst_1 : decode cX9_worst 1 = .ok (.iconst 0, 1) := dk_3 (dk_at dksX9_worst_0 1 rfl rfl)
theorem dX9_worst_2 : decode cX9_worst 2 = .ok (.putfield 52, 3) := dk_181 0 52 (dk_at dksX9_worst_0 2 rfl rfl)
theorem dX9_worst_5 : decode cX9_worst 5 = .ok (.iload_n 1, 1) := dk_27 (dk_at dksX9_worst_0 5 rfl rfl)
theorem dX9_worst_6 : decode cX9_worst 6 = .ok (.invokestatic 127, 3) := dk_184 0 127 (dk_at dksX9_worst_0 6 rfl rfl)
theorem dX9_worst_9 : decode cX9_worst 9 = .ok (.ifCond .eq 11, 3) := dk_153 0 11 (dk_at dksX9_worst_0 9 rfl rfl)
theorem dX9_worst_12 : decode cX9_worst 12 = .ok (.aload_n 0, 1) := dk_42 (dk_at dksX9_worst_0 12 rfl rfl)
theorem dX9_worst_13 : decode cX9_worst 13 = .ok (.iload_n 1, 1) := dk_27 (dk_at dksX9_worst_0 13 rfl rfl)
theorem dX9_worst_14 : decode cX9_worst 14 = .ok (.invokevirtual 130, 3) := dk_182 0 130 (dk_at dksX9_worst_0 14 rfl rfl)
theorem dX9_worst_17 : decode cX9_worst 17 = .ok (.goto 8, 3) := dk_167 0 8 (dk_at dksX9_worst_0 17 rfl rfl)
theorem dX9_worst_20 : decode cX9_worst 20 = .ok (.aload_n 0, 1) := dk_42 (dk_at dksX9_worst_0 20 rfl rfl)
theorem dX9_worst_21 : decode cX9_worst 21 = .ok (.iconst 1, 1) := dk_4 (dk_at dksX9_worst_0 21 rfl rfl)
theorem dX9_worst_22 : decode cX9_worst 22 = .ok (.invokevirtual 63, 3) := dk_182 0 63 (dk_at dksX9_worst_1 0 rfl rfl)
theorem dX9_worst_25 : decode cX9_worst 25 = .ok (.ireturn, 1) := dk_172 (dk_at dksX9_worst_1 3 rfl rfl)
abbrev cX9_worstBy : ByteArray := prog_11_method_30_code
def yX9_worstBy : MethodName := ⟨RX9, "worstBy", "(I)I"⟩
def dkwX9_worstBy_2 : List UInt8 := [164, 0, 8, 21, 5, 167, 0, 4, 29, 62, 132, 4, 1, 167, 255, 213, 29, 172]
abbrev dktX9_worstBy_2 : List UInt8 := dkwX9_worstBy_2 ++ []
def dkwX9_worstBy_1 : List UInt8 := [180, 0, 25, 21, 4, 46, 42, 180, 0, 7, 21, 4, 46, 100, 184, 0, 106, 54, 5, 21, 5, 29]
abbrev dktX9_worstBy_1 : List UInt8 := dkwX9_worstBy_1 ++ dktX9_worstBy_2
def dkwX9_worstBy_0 : List UInt8 := [42, 27, 182, 0, 115, 61, 42, 182, 0, 118, 3, 62, 3, 54, 4, 21, 4, 16, 64, 162, 0, 42, 42]
abbrev dktX9_worstBy_0 : List UInt8 := dkwX9_worstBy_0 ++ dktX9_worstBy_1
theorem dksX9_worstBy_0 : cX9_worstBy.data.toList.drop 0 = dktX9_worstBy_0 := by decide +kernel
theorem dksX9_worstBy_1 : cX9_worstBy.data.toList.drop 23 = dktX9_worstBy_1 := dk_seg dksX9_worstBy_0 23 rfl rfl
theorem dksX9_worstBy_2 : cX9_worstBy.data.toList.drop 45 = dktX9_worstBy_2 := dk_seg dksX9_worstBy_1 22 rfl rfl
theorem dX9_worstBy_0 : decode cX9_worstBy 0 = .ok (.aload_n 0, 1) := dk_42 (dk_at dksX9_worstBy_0 0 rfl rfl)
theorem dX9_worstBy_1 : decode cX9_worstBy 1 = .ok (.iload_n 1, 1) := dk_27 (dk_at dksX9_worstBy_0 1 rfl rfl)
theorem dX9_worstBy_2 : decode cX9_worstBy 2 = .ok (.invokevirtual 115, 3) := dk_182 0 115 (dk_at dksX9_worstBy_0 2 rfl rfl)
theorem dX9_worstBy_5 : decode cX9_worstBy 5 = .ok (.istore_n 2, 1) := dk_61 (dk_at dksX9_worstBy_0 5 rfl rfl)
theorem dX9_worstBy_6 : decode cX9_worstBy 6 = .ok (.aload_n 0, 1) := dk_42 (dk_at dksX9_worstBy_0 6 rfl rfl)
theorem dX9_worstBy_7 : decode cX9_worstBy 7 = .ok (.invokevirtual 118, 3) := dk_182 0 118 (dk_at dksX9_worstBy_0 7 rfl rfl)
theorem dX9_worstBy_10 : decode cX9_worstBy 10 = .ok (.iconst 0, 1) := dk_3 (dk_at dksX9_worstBy_0 10 rfl rfl)
theorem dX9_worstBy_11 : decode cX9_worstBy 11 = .ok (.istore_n 3, 1) := dk_62 (dk_at dksX9_worstBy_0 11 rfl rfl)
theorem dX9_worstBy_12 : decode cX9_worstBy 12 = .ok (.iconst 0, 1) := dk_3 (dk_at dksX9_worstBy_0 12 rfl rfl)
theorem dX9_worstBy_13 : decode cX9_worstBy 13 = .ok (.istore 4, 2) := dk_54 4 (dk_at dksX9_worstBy_0 13 rfl rfl)
theorem dX9_worstBy_15 : decode cX9_worstBy 15 = .ok (.iload 4, 2) := dk_21 4 (dk_at dksX9_worstBy_0 15 rfl rfl)
theorem dX9_worstBy_17 : decode cX9_worstBy 17 = .ok (.bipush 64, 2) := dk_16 64 (dk_at dksX9_worstBy_0 17 rfl rfl)
theorem dX9_worstBy_19 : decode cX9_worstBy 19 = .ok (.if_icmp .ge 42, 3) := dk_162 0 42 (dk_at dksX9_worstBy_0 19 rfl rfl)
theorem dX9_worstBy_22 : decode cX9_worstBy 22 = .ok (.aload_n 0, 1) := dk_42 (dk_at dksX9_worstBy_0 22 rfl rfl)
theorem dX9_worstBy_23 : decode cX9_worstBy 23 = .ok (.getfield 25, 3) := dk_180 0 25 (dk_at dksX9_worstBy_1 0 rfl rfl)
theorem dX9_worstBy_26 : decode cX9_worstBy 26 = .ok (.iload 4, 2) := dk_21 4 (dk_at dksX9_worstBy_1 3 rfl rfl)
theorem dX9_worstBy_28 : decode cX9_worstBy 28 = .ok (.iaload, 1) := dk_46 (dk_at dksX9_worstBy_1 5 rfl rfl)
theorem dX9_worstBy_29 : decode cX9_worstBy 29 = .ok (.aload_n 0, 1) := dk_42 (dk_at dksX9_worstBy_1 6 rfl rfl)
theorem dX9_worstBy_30 : decode cX9_worstBy 30 = .ok (.getfield 7, 3) := dk_180 0 7 (dk_at dksX9_worstBy_1 7 rfl rfl)
theorem dX9_worstBy_33 : decode cX9_worstBy 33 = .ok (.iload 4, 2) := dk_21 4 (dk_at dksX9_worstBy_1 10 rfl rfl)
theorem dX9_worstBy_35 : decode cX9_worstBy 35 = .ok (.iaload, 1) := dk_46 (dk_at dksX9_worstBy_1 12 rfl rfl)
theorem dX9_worstBy_36 : decode cX9_worstBy 36 = .ok (.isub, 1) := dk_100 (dk_at dksX9_worstBy_1 13 rfl rfl)
theorem dX9_worstBy_37 : decode cX9_worstBy 37 = .ok (.invokestatic 106, 3) := dk_184 0 106 (dk_at dksX9_worstBy_1 14 rfl rfl)
theorem dX9_worstBy_40 : decode cX9_worstBy 40 = .ok (.istore 5, 2) := dk_54 5 (dk_at dksX9_worstBy_1 17 rfl rfl)
theorem dX9_worstBy_42 : decode cX9_worstBy 42 = .ok (.iload 5, 2) := dk_21 5 (dk_at dksX9_worstBy_1 19 rfl rfl)
theorem dX9_worstBy_44 : decode cX9_worstBy 44 = .ok (.iload_n 3, 1) := dk_29 (dk_at dksX9_worstBy_1 21 rfl rfl)
theorem dX9_worstBy_45 : decode cX9_worstBy 45 = .ok (.if_icmp .le 8, 3) := dk_164 0 8 (dk_at dksX9_worstBy_2 0 rfl rfl)
theorem dX9_worstBy_48 : decode cX9_worstBy 48 = .ok (.iload 5, 2) := dk_21 5 (dk_at dksX9_worstBy_2 3 rfl rfl)
theorem dX9_worstBy_50 : decode cX9_worstBy 50 = .ok (.goto 4, 3) := dk_167 0 4 (dk_at dksX9_worstBy_2 5 rfl rfl)
theorem dX9_worstBy_53 : decode cX9_worstBy 53 = .ok (.iload_n 3, 1) := dk_29 (dk_at dksX9_worstBy_2 8 rfl rfl)
theorem dX9_worstBy_54 : decode cX9_worstBy 54 = .ok (.istore_n 3, 1) := dk_62 (dk_at dksX9_worstBy_2 9 rfl rfl)
theorem dX9_worstBy_55 : decode cX9_worstBy 55 = .ok (.iinc 4 1, 3) := dk_132 4 1 (dk_at dksX9_worstBy_2 10 rfl rfl)
theorem dX9_worstBy_58 : decode cX9_worstBy 58 = .ok (.goto (-43), 3) := dk_167 255 213 (dk_at dksX9_worstBy_2 13 rfl rfl)
theorem dX9_worstBy_61 : decode cX9_worstBy 61 = .ok (.iload_n 3, 1) := dk_29 (dk_at dksX9_worstBy_2 16 rfl rfl)
theorem dX9_worstBy_62 : decode cX9_worstBy 62 = .ok (.ireturn, 1) := dk_172 (dk_at dksX9_worstBy_2 17 rfl rfl)
abbrev cX9_thresholdFor : ByteArray := prog_11_method_36_code
def yX9_thresholdFor : MethodName := ⟨RX9, "thresholdFor", "(I)I"⟩
def dkwX9_thresholdFor_1 : List UInt8 := [42, 4, 182, 0, 63, 172]
abbrev dktX9_thresholdFor_1 : List UInt8 := dkwX9_thresholdFor_1 ++ []
def dkwX9_thresholdFor_0 : List UInt8 := [42, 3, 181, 0, 52, 27, 3, 17, 63, 192, 184, 0, 56, 153, 0, 11, 42, 27, 182, 0, 133, 167, 0, 8]
abbrev dktX9_thresholdFor_0 : List UInt8 := dkwX9_thresholdFor_0 ++ dktX9_thresholdFor_1
theorem dksX9_thresholdFor_0 : cX9_thresholdFor.data.toList.drop 0 = dktX9_thresholdFor_0 := by decide +kernel
theorem dksX9_thresholdFor_1 : cX9_thresholdFor.data.toList.drop 24 = dktX9_thresholdFor_1 := dk_seg dksX9_thresholdFor_0 24 rfl rfl
theorem dX9_thresholdFor_0 : decode cX9_thresholdFor 0 = .ok (.aload_n 0, 1) := dk_42 (dk_at dksX9_thresholdFor_0 0 rfl rfl)
theorem dX9_thresholdFor_1 : decode cX9_thresholdFor 1 = .ok (.iconst 0, 1) := dk_3 (dk_at dksX9_thresholdFor_0 1 rfl rfl)
theorem dX9_thresholdFor_2 : decode cX9_thresholdFor 2 = .ok (.putfield 52, 3) := dk_181 0 52 (dk_at dksX9_thresholdFor_0 2 rfl rfl)
theorem dX9_thresholdFor_5 : decode cX9_thresholdFor 5 = .ok (.iload_n 1, 1) := dk_27 (dk_at dksX9_thresholdFor_0 5 rfl rfl)
theorem dX9_thresholdFor_6 : decode cX9_thresholdFor 6 = .ok (.iconst 0, 1) := dk_3 (dk_at dksX9_thresholdFor_0 6 rfl rfl)
theorem dX9_thresholdFor_7 : decode cX9_thresholdFor 7 = .ok (.sipush 16320, 3) := dk_17 63 192 (dk_at dksX9_thresholdFor_0 7 rfl rfl)
theorem dX9_thresholdFor_10 : decode cX9_thresholdFor 10 = .ok (.invokestatic 56, 3) := dk_184 0 56 (dk_at dksX9_thresholdFor_0 10 rfl rfl)
theorem dX9_thresholdFor_13 : decode cX9_thresholdFor 13 = .ok (.ifCond .eq 11, 3) := dk_153 0 11 (dk_at dksX9_thresholdFor_0 13 rfl rfl)
theorem dX9_thresholdFor_16 : decode cX9_thresholdFor 16 = .ok (.aload_n 0, 1) := dk_42 (dk_at dksX9_thresholdFor_0 16 rfl rfl)
theorem dX9_thresholdFor_17 : decode cX9_thresholdFor 17 = .ok (.iload_n 1, 1) := dk_27 (dk_at dksX9_thresholdFor_0 17 rfl rfl)
theorem dX9_thresholdFor_18 : decode cX9_thresholdFor 18 = .ok (.invokevirtual 133, 3) := dk_182 0 133 (dk_at dksX9_thresholdFor_0 18 rfl rfl)
theorem dX9_thresholdFor_21 : decode cX9_thresholdFor 21 = .ok (.goto 8, 3) := dk_167 0 8 (dk_at dksX9_thresholdFor_0 21 rfl rfl)
theorem dX9_thresholdFor_24 : decode cX9_thresholdFor 24 = .ok (.aload_n 0, 1) := dk_42 (dk_at dksX9_thresholdFor_1 0 rfl rfl)
theorem dX9_thresholdFor_25 : decode cX9_thresholdFor 25 = .ok (.iconst 1, 1) := dk_4 (dk_at dksX9_thresholdFor_1 1 rfl rfl)
theorem dX9_thresholdFor_26 : decode cX9_thresholdFor 26 = .ok (.invokevirtual 63, 3) := dk_182 0 63 (dk_at dksX9_thresholdFor_1 2 rfl rfl)
theorem dX9_thresholdFor_29 : decode cX9_thresholdFor 29 = .ok (.ireturn, 1) := dk_172 (dk_at dksX9_thresholdFor_1 5 rfl rfl)
abbrev cX9_greatestFor : ByteArray := prog_11_method_31_code
def yX9_greatestFor : MethodName := ⟨RX9, "greatestFor", "(I)I"⟩
def dkwX9_greatestFor_1 : List UInt8 := [28, 61, 132, 3, 1, 167, 255, 231, 28, 172]
abbrev dktX9_greatestFor_1 : List UInt8 := dkwX9_greatestFor_1 ++ []
def dkwX9_greatestFor_0 : List UInt8 := [3, 61, 3, 62, 29, 17, 0, 255, 163, 0, 24, 42, 29, 182, 0, 124, 27, 163, 0, 7, 29, 167, 0, 4]
abbrev dktX9_greatestFor_0 : List UInt8 := dkwX9_greatestFor_0 ++ dktX9_greatestFor_1
theorem dksX9_greatestFor_0 : cX9_greatestFor.data.toList.drop 0 = dktX9_greatestFor_0 := by decide +kernel
theorem dksX9_greatestFor_1 : cX9_greatestFor.data.toList.drop 24 = dktX9_greatestFor_1 := dk_seg dksX9_greatestFor_0 24 rfl rfl
theorem dX9_greatestFor_0 : decode cX9_greatestFor 0 = .ok (.iconst 0, 1) := dk_3 (dk_at dksX9_greatestFor_0 0 rfl rfl)
theorem dX9_greatestFor_1 : decode cX9_greatestFor 1 = .ok (.istore_n 2, 1) := dk_61 (dk_at dksX9_greatestFor_0 1 rfl rfl)
theorem dX9_greatestFor_2 : decode cX9_greatestFor 2 = .ok (.iconst 0, 1) := dk_3 (dk_at dksX9_greatestFor_0 2 rfl rfl)
theorem dX9_greatestFor_3 : decode cX9_greatestFor 3 = .ok (.istore_n 3, 1) := dk_62 (dk_at dksX9_greatestFor_0 3 rfl rfl)
theorem dX9_greatestFor_4 : decode cX9_greatestFor 4 = .ok (.iload_n 3, 1) := dk_29 (dk_at dksX9_greatestFor_0 4 rfl rfl)
theorem dX9_greatestFor_5 : decode cX9_greatestFor 5 = .ok (.sipush 255, 3) := dk_17 0 255 (dk_at dksX9_greatestFor_0 5 rfl rfl)
theorem dX9_greatestFor_8 : decode cX9_greatestFor 8 = .ok (.if_icmp .gt 24, 3) := dk_163 0 24 (dk_at dksX9_greatestFor_0 8 rfl rfl)
theorem dX9_greatestFor_11 : decode cX9_greatestFor 11 = .ok (.aload_n 0, 1) := dk_42 (dk_at dksX9_greatestFor_0 11 rfl rfl)
theorem dX9_greatestFor_12 : decode cX9_greatestFor 12 = .ok (.iload_n 3, 1) := dk_29 (dk_at dksX9_greatestFor_0 12 rfl rfl)
theorem dX9_greatestFor_13 : decode cX9_greatestFor 13 = .ok (.invokevirtual 124, 3) := dk_182 0 124 (dk_at dksX9_greatestFor_0 13 rfl rfl)
theorem dX9_greatestFor_16 : decode cX9_greatestFor 16 = .ok (.iload_n 1, 1) := dk_27 (dk_at dksX9_greatestFor_0 16 rfl rfl)
theorem dX9_greatestFor_17 : decode cX9_greatestFor 17 = .ok (.if_icmp .gt 7, 3) := dk_163 0 7 (dk_at dksX9_greatestFor_0 17 rfl rfl)
theorem dX9_greatestFor_20 : decode cX9_greatestFor 20 = .ok (.iload_n 3, 1) := dk_29 (dk_at dksX9_greatestFor_0 20 rfl rfl)
theorem dX9_greatestFor_21 : decode cX9_greatestFor 21 = .ok (.goto 4, 3) := dk_167 0 4 (dk_at dksX9_greatestFor_0 21 rfl rfl)
theorem dX9_greatestFor_24 : decode cX9_greatestFor 24 = .ok (.iload_n 2, 1) := dk_28 (dk_at dksX9_greatestFor_1 0 rfl rfl)
theorem dX9_greatestFor_25 : decode cX9_greatestFor 25 = .ok (.istore_n 2, 1) := dk_61 (dk_at dksX9_greatestFor_1 1 rfl rfl)
theorem dX9_greatestFor_26 : decode cX9_greatestFor 26 = .ok (.iinc 3 1, 3) := dk_132 3 1 (dk_at dksX9_greatestFor_1 2 rfl rfl)
theorem dX9_greatestFor_29 : decode cX9_greatestFor 29 = .ok (.goto (-25), 3) := dk_167 255 231 (dk_at dksX9_greatestFor_1 5 rfl rfl)
theorem dX9_greatestFor_32 : decode cX9_greatestFor 32 = .ok (.iload_n 2, 1) := dk_28 (dk_at dksX9_greatestFor_1 8 rfl rfl)
theorem dX9_greatestFor_33 : decode cX9_greatestFor 33 = .ok (.ireturn, 1) := dk_172 (dk_at dksX9_greatestFor_1 9 rfl rfl)
abbrev cX9_costOfPlanes : ByteArray := prog_11_method_37_code
def yX9_costOfPlanes : MethodName := ⟨RX9, "costOfPlanes", "(I)I"⟩
def dkwX9_costOfPlanes_1 : List UInt8 := [4, 182, 0, 63, 172]
abbrev dktX9_costOfPlanes_1 : List UInt8 := dkwX9_costOfPlanes_1 ++ []
def dkwX9_costOfPlanes_0 : List UInt8 := [42, 3, 181, 0, 52, 27, 3, 16, 7, 184, 0, 56, 153, 0, 11, 42, 27, 182, 0, 136, 167, 0, 8, 42]
abbrev dktX9_costOfPlanes_0 : List UInt8 := dkwX9_costOfPlanes_0 ++ dktX9_costOfPlanes_1
theorem dksX9_costOfPlanes_0 : cX9_costOfPlanes.data.toList.drop 0 = dktX9_costOfPlanes_0 := by decide +kernel
theorem dksX9_costOfPlanes_1 : cX9_costOfPlanes.data.toList.drop 24 = dktX9_costOfPlanes_1 := dk_seg dksX9_costOfPlanes_0 24 rfl rfl
theorem dX9_costOfPlanes_0 : decode cX9_costOfPlanes 0 = .ok (.aload_n 0, 1) := dk_42 (dk_at dksX9_costOfPlanes_0 0 rfl rfl)
theorem dX9_costOfPlanes_1 : decode cX9_costOfPlanes 1 = .ok (.iconst 0, 1) := dk_3 (dk_at dksX9_costOfPlanes_0 1 rfl rfl)
theorem dX9_costOfPlanes_2 : decode cX9_costOfPlanes 2 = .ok (.putfield 52, 3) := dk_181 0 52 (dk_at dksX9_costOfPlanes_0 2 rfl rfl)
theorem dX9_costOfPlanes_5 : decode cX9_costOfPlanes 5 = .ok (.iload_n 1, 1) := dk_27 (dk_at dksX9_costOfPlanes_0 5 rfl rfl)
theorem dX9_costOfPlanes_6 : decode cX9_costOfPlanes 6 = .ok (.iconst 0, 1) := dk_3 (dk_at dksX9_costOfPlanes_0 6 rfl rfl)
theorem dX9_costOfPlanes_7 : decode cX9_costOfPlanes 7 = .ok (.bipush 7, 2) := dk_16 7 (dk_at dksX9_costOfPlanes_0 7 rfl rfl)
theorem dX9_costOfPlanes_9 : decode cX9_costOfPlanes 9 = .ok (.invokestatic 56, 3) := dk_184 0 56 (dk_at dksX9_costOfPlanes_0 9 rfl rfl)
theorem dX9_costOfPlanes_12 : decode cX9_costOfPlanes 12 = .ok (.ifCond .eq 11, 3) := dk_153 0 11 (dk_at dksX9_costOfPlanes_0 12 rfl rfl)
theorem dX9_costOfPlanes_15 : decode cX9_costOfPlanes 15 = .ok (.aload_n 0, 1) := dk_42 (dk_at dksX9_costOfPlanes_0 15 rfl rfl)
theorem dX9_costOfPlanes_16 : decode cX9_costOfPlanes 16 = .ok (.iload_n 1, 1) := dk_27 (dk_at dksX9_costOfPlanes_0 16 rfl rfl)
theorem dX9_costOfPlanes_17 : decode cX9_costOfPlanes 17 = .ok (.invokevirtual 136, 3) := dk_182 0 136 (dk_at dksX9_costOfPlanes_0 17 rfl rfl)
theorem dX9_costOfPlanes_20 : decode cX9_costOfPlanes 20 = .ok (.goto 8, 3) := dk_167 0 8 (dk_at dksX9_costOfPlanes_0 20 rfl rfl)
theorem dX9_costOfPlanes_23 : decode cX9_costOfPlanes 23 = .ok (.aload_n 0, 1) := dk_42 (dk_at dksX9_costOfPlanes_0 23 rfl rfl)
theorem dX9_costOfPlanes_24 : decode cX9_costOfPlanes 24 = .ok (.iconst 1, 1) := dk_4 (dk_at dksX9_costOfPlanes_1 0 rfl rfl)
theorem dX9_costOfPlanes_25 : decode cX9_costOfPlanes 25 = .ok (.invokevirtual 63, 3) := dk_182 0 63 (dk_at dksX9_costOfPlanes_1 1 rfl rfl)
theorem dX9_costOfPlanes_28 : decode cX9_costOfPlanes 28 = .ok (.ireturn, 1) := dk_172 (dk_at dksX9_costOfPlanes_1 4 rfl rfl)
abbrev cX9_costBehind : ByteArray := prog_11_method_32_code
def yX9_costBehind : MethodName := ⟨RX9, "costBehind", "(I)I"⟩
def dkwX9_costBehind_2 : List UInt8 := [28, 46, 79, 132, 2, 1, 167, 255, 210, 42, 182, 0, 118, 42, 182, 0, 121, 172]
abbrev dktX9_costBehind_2 : List UInt8 := dkwX9_costBehind_2 ++ []
def dkwX9_costBehind_1 : List UInt8 := [153, 0, 20, 42, 180, 0, 22, 28, 46, 4, 27, 120, 108, 4, 27, 120, 104, 167, 0, 9, 42, 180, 0, 22]
abbrev dktX9_costBehind_1 : List UInt8 := dkwX9_costBehind_1 ++ dktX9_costBehind_2
def dkwX9_costBehind_0 : List UInt8 := [42, 182, 0, 99, 3, 61, 28, 16, 64, 162, 0, 46, 42, 180, 0, 22, 28, 42, 28, 182, 0, 102]
abbrev dktX9_costBehind_0 : List UInt8 := dkwX9_costBehind_0 ++ dktX9_costBehind_1
theorem dksX9_costBehind_0 : cX9_costBehind.data.toList.drop 0 = dktX9_costBehind_0 := by decide +kernel
theorem dksX9_costBehind_1 : cX9_costBehind.data.toList.drop 22 = dktX9_costBehind_1 := dk_seg dksX9_costBehind_0 22 rfl rfl
theorem dksX9_costBehind_2 : cX9_costBehind.data.toList.drop 46 = dktX9_costBehind_2 := dk_seg dksX9_costBehind_1 24 rfl rfl
theorem dX9_costBehind_0 : decode cX9_costBehind 0 = .ok (.aload_n 0, 1) := dk_42 (dk_at dksX9_costBehind_0 0 rfl rfl)
theorem dX9_costBehind_1 : decode cX9_costBehind 1 = .ok (.invokevirtual 99, 3) := dk_182 0 99 (dk_at dksX9_costBehind_0 1 rfl rfl)
theorem dX9_costBehind_4 : decode cX9_costBehind 4 = .ok (.iconst 0, 1) := dk_3 (dk_at dksX9_costBehind_0 4 rfl rfl)
theorem dX9_costBehind_5 : decode cX9_costBehind 5 = .ok (.istore_n 2, 1) := dk_61 (dk_at dksX9_costBehind_0 5 rfl rfl)
theorem dX9_costBehind_6 : decode cX9_costBehind 6 = .ok (.iload_n 2, 1) := dk_28 (dk_at dksX9_costBehind_0 6 rfl rfl)
theorem dX9_costBehind_7 : decode cX9_costBehind 7 = .ok (.bipush 64, 2) := dk_16 64 (dk_at dksX9_costBehind_0 7 rfl rfl)
theorem dX9_costBehind_9 : decode cX9_costBehind 9 = .ok (.if_icmp .ge 46, 3) := dk_162 0 46 (dk_at dksX9_costBehind_0 9 rfl rfl)
theorem dX9_costBehind_12 : decode cX9_costBehind 12 = .ok (.aload_n 0, 1) := dk_42 (dk_at dksX9_costBehind_0 12 rfl rfl)
theorem dX9_costBehind_13 : decode cX9_costBehind 13 = .ok (.getfield 22, 3) := dk_180 0 22 (dk_at dksX9_costBehind_0 13 rfl rfl)
theorem dX9_costBehind_16 : decode cX9_costBehind 16 = .ok (.iload_n 2, 1) := dk_28 (dk_at dksX9_costBehind_0 16 rfl rfl)
theorem dX9_costBehind_17 : decode cX9_costBehind 17 = .ok (.aload_n 0, 1) := dk_42 (dk_at dksX9_costBehind_0 17 rfl rfl)
theorem dX9_costBehind_18 : decode cX9_costBehind 18 = .ok (.iload_n 2, 1) := dk_28 (dk_at dksX9_costBehind_0 18 rfl rfl)
theorem dX9_costBehind_19 : decode cX9_costBehind 19 = .ok (.invokevirtual 102, 3) := dk_182 0 102 (dk_at dksX9_costBehind_0 19 rfl rfl)
theorem dX9_costBehind_22 : decode cX9_costBehind 22 = .ok (.ifCond .eq 20, 3) := dk_153 0 20 (dk_at dksX9_costBehind_1 0 rfl rfl)
theorem dX9_costBehind_25 : decode cX9_costBehind 25 = .ok (.aload_n 0, 1) := dk_42 (dk_at dksX9_costBehind_1 3 rfl rfl)
theorem dX9_costBehind_26 : decode cX9_costBehind 26 = .ok (.getfield 22, 3) := dk_180 0 22 (dk_at dksX9_costBehind_1 4 rfl rfl)
theorem dX9_costBehind_29 : decode cX9_costBehind 29 = .ok (.iload_n 2, 1) := dk_28 (dk_at dksX9_costBehind_1 7 rfl rfl)
theorem dX9_costBehind_30 : decode cX9_costBehind 30 = .ok (.iaload, 1) := dk_46 (dk_at dksX9_costBehind_1 8 rfl rfl)
theorem dX9_costBehind_31 : decode cX9_costBehind 31 = .ok (.iconst 1, 1) := dk_4 (dk_at dksX9_costBehind_1 9 rfl rfl)
theorem dX9_costBehind_32 : decode cX9_costBehind 32 = .ok (.iload_n 1, 1) := dk_27 (dk_at dksX9_costBehind_1 10 rfl rfl)
theorem dX9_costBehind_33 : decode cX9_costBehind 33 = .ok (.ishl, 1) := dk_120 (dk_at dksX9_costBehind_1 11 rfl rfl)
theorem dX9_costBehind_34 : decode cX9_costBehind 34 = .ok (.idiv, 1) := dk_108 (dk_at dksX9_costBehind_1 12 rfl rfl)
theorem dX9_costBehind_35 : decode cX9_costBehind 35 = .ok (.iconst 1, 1) := dk_4 (dk_at dksX9_costBehind_1 13 rfl rfl)
theorem dX9_costBehind_36 : decode cX9_costBehind 36 = .ok (.iload_n 1, 1) := dk_27 (dk_at dksX9_costBehind_1 14 rfl rfl)
theorem dX9_costBehind_37 : decode cX9_costBehind 37 = .ok (.ishl, 1) := dk_120 (dk_at dksX9_costBehind_1 15 rfl rfl)
theorem dX9_costBehind_38 : decode cX9_costBehind 38 = .ok (.imul, 1) := dk_104 (dk_at dksX9_costBehind_1 16 rfl rfl)
theorem dX9_costBehind_39 : decode cX9_costBehind 39 = .ok (.goto 9, 3) := dk_167 0 9 (dk_at dksX9_costBehind_1 17 rfl rfl)
theorem dX9_costBehind_42 : decode cX9_costBehind 42 = .ok (.aload_n 0, 1) := dk_42 (dk_at dksX9_costBehind_1 20 rfl rfl)
theorem dX9_costBehind_43 : decode cX9_costBehind 43 = .ok (.getfield 22, 3) := dk_180 0 22 (dk_at dksX9_costBehind_1 21 rfl rfl)
theorem dX9_costBehind_46 : decode cX9_costBehind 46 = .ok (.iload_n 2, 1) := dk_28 (dk_at dksX9_costBehind_2 0 rfl rfl)
theorem dX9_costBehind_47 : decode cX9_costBehind 47 = .ok (.iaload, 1) := dk_46 (dk_at dksX9_costBehind_2 1 rfl rfl)
theorem dX9_costBehind_48 : decode cX9_costBehind 48 = .ok (.iastore, 1) := dk_79 (dk_at dksX9_costBehind_2 2 rfl rfl)
theorem dX9_costBehind_49 : decode cX9_costBehind 49 = .ok (.iinc 2 1, 3) := dk_132 2 1 (dk_at dksX9_costBehind_2 3 rfl rfl)
theorem dX9_costBehind_52 : decode cX9_costBehind 52 = .ok (.goto (-46), 3) := dk_167 255 210 (dk_at dksX9_costBehind_2 6 rfl rfl)
theorem dX9_costBehind_55 : decode cX9_costBehind 55 = .ok (.aload_n 0, 1) := dk_42 (dk_at dksX9_costBehind_2 9 rfl rfl)
theorem dX9_costBehind_56 : decode cX9_costBehind 56 = .ok (.invokevirtual 118, 3) := dk_182 0 118 (dk_at dksX9_costBehind_2 10 rfl rfl)
theorem dX9_costBehind_59 : decode cX9_costBehind 59 = .ok (.aload_n 0, 1) := dk_42 (dk_at dksX9_costBehind_2 13 rfl rfl)
theorem dX9_costBehind_60 : decode cX9_costBehind 60 = .ok (.invokevirtual 121, 3) := dk_182 0 121 (dk_at dksX9_costBehind_2 14 rfl rfl)
theorem dX9_costBehind_63 : decode cX9_costBehind 63 = .ok (.ireturn, 1) := dk_172 (dk_at dksX9_costBehind_2 17 rfl rfl)
abbrev cX9_trees : ByteArray := prog_11_method_40_code
def yX9_trees : MethodName := ⟨RX9, "trees", "(I)I"⟩
def dkwX9_trees_1 : List UInt8 := [182, 0, 63, 172]
abbrev dktX9_trees_1 : List UInt8 := dkwX9_trees_1 ++ []
def dkwX9_trees_0 : List UInt8 := [42, 3, 181, 0, 52, 27, 184, 0, 127, 153, 0, 11, 42, 27, 182, 0, 143, 167, 0, 8, 42, 4]
abbrev dktX9_trees_0 : List UInt8 := dkwX9_trees_0 ++ dktX9_trees_1
theorem dksX9_trees_0 : cX9_trees.data.toList.drop 0 = dktX9_trees_0 := by decide +kernel
theorem dksX9_trees_1 : cX9_trees.data.toList.drop 22 = dktX9_trees_1 := dk_seg dksX9_trees_0 22 rfl rfl
theorem dX9_trees_0 : decode cX9_trees 0 = .ok (.aload_n 0, 1) := dk_42 (dk_at dksX9_trees_0 0 rfl rfl)
theorem dX9_trees_1 : decode cX9_trees 1 = .ok (.iconst 0, 1) := dk_3 (dk_at dksX9_trees_0 1 rfl rfl)
theorem dX9_trees_2 : decode cX9_trees 2 = .ok (.putfield 52, 3) := dk_181 0 52 (dk_at dksX9_trees_0 2 rfl rfl)
theorem dX9_trees_5 : decode cX9_trees 5 = .ok (.iload_n 1, 1) := dk_27 (dk_at dksX9_trees_0 5 rfl rfl)
theorem dX9_trees_6 : decode cX9_trees 6 = .ok (.invokestatic 127, 3) := dk_184 0 127 (dk_at dksX9_trees_0 6 rfl rfl)
theorem dX9_trees_9 : decode cX9_trees 9 = .ok (.ifCond .eq 11, 3) := dk_153 0 11 (dk_at dksX9_trees_0 9 rfl rfl)
theorem dX9_trees_12 : decode cX9_trees 12 = .ok (.aload_n 0, 1) := dk_42 (dk_at dksX9_trees_0 12 rfl rfl)
theorem dX9_trees_13 : decode cX9_trees 13 = .ok (.iload_n 1, 1) := dk_27 (dk_at dksX9_trees_0 13 rfl rfl)
theorem dX9_trees_14 : decode cX9_trees 14 = .ok (.invokevirtual 143, 3) := dk_182 0 143 (dk_at dksX9_trees_0 14 rfl rfl)
theorem dX9_trees_17 : decode cX9_trees 17 = .ok (.goto 8, 3) := dk_167 0 8 (dk_at dksX9_trees_0 17 rfl rfl)
theorem dX9_trees_20 : decode cX9_trees 20 = .ok (.aload_n 0, 1) := dk_42 (dk_at dksX9_trees_0 20 rfl rfl)
theorem dX9_trees_21 : decode cX9_trees 21 = .ok (.iconst 1, 1) := dk_4 (dk_at dksX9_trees_0 21 rfl rfl)
theorem dX9_trees_22 : decode cX9_trees 22 = .ok (.invokevirtual 63, 3) := dk_182 0 63 (dk_at dksX9_trees_1 0 rfl rfl)
theorem dX9_trees_25 : decode cX9_trees 25 = .ok (.ireturn, 1) := dk_172 (dk_at dksX9_trees_1 3 rfl rfl)
abbrev cX9_treesBy : ByteArray := prog_11_method_39_code
def yX9_treesBy : MethodName := ⟨RX9, "treesBy", "(I)I"⟩
def dkwX9_treesBy_4 : List UInt8 := [61, 132, 3, 1, 167, 255, 169, 28, 172]
abbrev dktX9_treesBy_4 : List UInt8 := dkwX9_treesBy_4 ++ []
def dkwX9_treesBy_3 : List UInt8 := [153, 0, 22, 21, 4, 153, 0, 13, 42, 21, 5, 27, 182, 0, 139, 154, 0, 7, 4, 167, 0, 4, 3, 96]
abbrev dktX9_treesBy_3 : List UInt8 := dkwX9_treesBy_3 ++ dktX9_treesBy_4
def dkwX9_treesBy_2 : List UInt8 := [16, 8, 108, 5, 108, 104, 29, 16, 8, 112, 5, 108, 96, 54, 5, 28, 42, 29, 27, 182, 0, 139]
abbrev dktX9_treesBy_2 : List UInt8 := dkwX9_treesBy_2 ++ dktX9_treesBy_3
def dkwX9_treesBy_1 : List UInt8 := [184, 0, 89, 42, 180, 0, 7, 16, 64, 46, 162, 0, 7, 4, 167, 0, 4, 3, 54, 4, 16, 8, 29]
abbrev dktX9_treesBy_1 : List UInt8 := dkwX9_treesBy_1 ++ dktX9_treesBy_2
def dkwX9_treesBy_0 : List UInt8 := [42, 182, 0, 99, 3, 61, 3, 62, 29, 16, 64, 162, 0, 87, 29, 42, 180, 0, 7, 16, 64, 46]
abbrev dktX9_treesBy_0 : List UInt8 := dkwX9_treesBy_0 ++ dktX9_treesBy_1
theorem dksX9_treesBy_0 : cX9_treesBy.data.toList.drop 0 = dktX9_treesBy_0 := by decide +kernel
theorem dksX9_treesBy_1 : cX9_treesBy.data.toList.drop 22 = dktX9_treesBy_1 := dk_seg dksX9_treesBy_0 22 rfl rfl
theorem dksX9_treesBy_2 : cX9_treesBy.data.toList.drop 45 = dktX9_treesBy_2 := dk_seg dksX9_treesBy_1 23 rfl rfl
theorem dksX9_treesBy_3 : cX9_treesBy.data.toList.drop 67 = dktX9_treesBy_3 := dk_seg dksX9_treesBy_2 22 rfl rfl
theorem dksX9_treesBy_4 : cX9_treesBy.data.toList.drop 91 = dktX9_treesBy_4 := dk_seg dksX9_treesBy_3 24 rfl rfl
theorem dX9_treesBy_0 : decode cX9_treesBy 0 = .ok (.aload_n 0, 1) := dk_42 (dk_at dksX9_treesBy_0 0 rfl rfl)
theorem dX9_treesBy_1 : decode cX9_treesBy 1 = .ok (.invokevirtual 99, 3) := dk_182 0 99 (dk_at dksX9_treesBy_0 1 rfl rfl)
theorem dX9_treesBy_4 : decode cX9_treesBy 4 = .ok (.iconst 0, 1) := dk_3 (dk_at dksX9_treesBy_0 4 rfl rfl)
theorem dX9_treesBy_5 : decode cX9_treesBy 5 = .ok (.istore_n 2, 1) := dk_61 (dk_at dksX9_treesBy_0 5 rfl rfl)
theorem dX9_treesBy_6 : decode cX9_treesBy 6 = .ok (.iconst 0, 1) := dk_3 (dk_at dksX9_treesBy_0 6 rfl rfl)
theorem dX9_treesBy_7 : decode cX9_treesBy 7 = .ok (.istore_n 3, 1) := dk_62 (dk_at dksX9_treesBy_0 7 rfl rfl)
theorem dX9_treesBy_8 : decode cX9_treesBy 8 = .ok (.iload_n 3, 1) := dk_29 (dk_at dksX9_treesBy_0 8 rfl rfl)
theorem dX9_treesBy_9 : decode cX9_treesBy 9 = .ok (.bipush 64, 2) := dk_16 64 (dk_at dksX9_treesBy_0 9 rfl rfl)
theorem dX9_treesBy_11 : decode cX9_treesBy 11 = .ok (.if_icmp .ge 87, 3) := dk_162 0 87 (dk_at dksX9_treesBy_0 11 rfl rfl)
theorem dX9_treesBy_14 : decode cX9_treesBy 14 = .ok (.iload_n 3, 1) := dk_29 (dk_at dksX9_treesBy_0 14 rfl rfl)
theorem dX9_treesBy_15 : decode cX9_treesBy 15 = .ok (.aload_n 0, 1) := dk_42 (dk_at dksX9_treesBy_0 15 rfl rfl)
theorem dX9_treesBy_16 : decode cX9_treesBy 16 = .ok (.getfield 7, 3) := dk_180 0 7 (dk_at dksX9_treesBy_0 16 rfl rfl)
theorem dX9_treesBy_19 : decode cX9_treesBy 19 = .ok (.bipush 64, 2) := dk_16 64 (dk_at dksX9_treesBy_0 19 rfl rfl)
theorem dX9_treesBy_21 : decode cX9_treesBy 21 = .ok (.iaload, 1) := dk_46 (dk_at dksX9_treesBy_0 21 rfl rfl)
theorem dX9_treesBy_22 : decode cX9_treesBy 22 = .ok (.invokestatic 89, 3) := dk_184 0 89 (dk_at dksX9_treesBy_1 0 rfl rfl)
theorem dX9_treesBy_25 : decode cX9_treesBy 25 = .ok (.aload_n 0, 1) := dk_42 (dk_at dksX9_treesBy_1 3 rfl rfl)
theorem dX9_treesBy_26 : decode cX9_treesBy 26 = .ok (.getfield 7, 3) := dk_180 0 7 (dk_at dksX9_treesBy_1 4 rfl rfl)
theorem dX9_treesBy_29 : decode cX9_treesBy 29 = .ok (.bipush 64, 2) := dk_16 64 (dk_at dksX9_treesBy_1 7 rfl rfl)
theorem dX9_treesBy_31 : decode cX9_treesBy 31 = .ok (.iaload, 1) := dk_46 (dk_at dksX9_treesBy_1 9 rfl rfl)
theorem dX9_treesBy_32 : decode cX9_treesBy 32 = .ok (.if_icmp .ge 7, 3) := dk_162 0 7 (dk_at dksX9_treesBy_1 10 rfl rfl)
theorem dX9_treesBy_35 : decode cX9_treesBy 35 = .ok (.iconst 1, 1) := dk_4 (dk_at dksX9_treesBy_1 13 rfl rfl)
theorem dX9_treesBy_36 : decode cX9_treesBy 36 = .ok (.goto 4, 3) := dk_167 0 4 (dk_at dksX9_treesBy_1 14 rfl rfl)
theorem dX9_treesBy_39 : decode cX9_treesBy 39 = .ok (.iconst 0, 1) := dk_3 (dk_at dksX9_treesBy_1 17 rfl rfl)
theorem dX9_treesBy_40 : decode cX9_treesBy 40 = .ok (.istore 4, 2) := dk_54 4 (dk_at dksX9_treesBy_1 18 rfl rfl)
theorem dX9_treesBy_42 : decode cX9_treesBy 42 = .ok (.bipush 8, 2) := dk_16 8 (dk_at dksX9_treesBy_1 20 rfl rfl)
theorem dX9_treesBy_44 : decode cX9_treesBy 44 = .ok (.iload_n 3, 1) := dk_29 (dk_at dksX9_treesBy_1 22 rfl rfl)
theorem dX9_treesBy_45 : decode cX9_treesBy 45 = .ok (.bipush 8, 2) := dk_16 8 (dk_at dksX9_treesBy_2 0 rfl rfl)
theorem dX9_treesBy_47 : decode cX9_treesBy 47 = .ok (.idiv, 1) := dk_108 (dk_at dksX9_treesBy_2 2 rfl rfl)
theorem dX9_treesBy_48 : decode cX9_treesBy 48 = .ok (.iconst 2, 1) := dk_5 (dk_at dksX9_treesBy_2 3 rfl rfl)
theorem dX9_treesBy_49 : decode cX9_treesBy 49 = .ok (.idiv, 1) := dk_108 (dk_at dksX9_treesBy_2 4 rfl rfl)
theorem dX9_treesBy_50 : decode cX9_treesBy 50 = .ok (.imul, 1) := dk_104 (dk_at dksX9_treesBy_2 5 rfl rfl)
theorem dX9_treesBy_51 : decode cX9_treesBy 51 = .ok (.iload_n 3, 1) := dk_29 (dk_at dksX9_treesBy_2 6 rfl rfl)
theorem dX9_treesBy_52 : decode cX9_treesBy 52 = .ok (.bipush 8, 2) := dk_16 8 (dk_at dksX9_treesBy_2 7 rfl rfl)
theorem dX9_treesBy_54 : decode cX9_treesBy 54 = .ok (.irem, 1) := dk_112 (dk_at dksX9_treesBy_2 9 rfl rfl)
theorem dX9_treesBy_55 : decode cX9_treesBy 55 = .ok (.iconst 2, 1) := dk_5 (dk_at dksX9_treesBy_2 10 rfl rfl)
theorem dX9_treesBy_56 : decode cX9_treesBy 56 = .ok (.idiv, 1) := dk_108 (dk_at dksX9_treesBy_2 11 rfl rfl)
theorem dX9_treesBy_57 : decode cX9_treesBy 57 = .ok (.iadd, 1) := dk_96 (dk_at dksX9_treesBy_2 12 rfl rfl)
theorem dX9_treesBy_58 : decode cX9_treesBy 58 = .ok (.istore 5, 2) := dk_54 5 (dk_at dksX9_treesBy_2 13 rfl rfl)
theorem dX9_treesBy_60 : decode cX9_treesBy 60 = .ok (.iload_n 2, 1) := dk_28 (dk_at dksX9_treesBy_2 15 rfl rfl)
theorem dX9_treesBy_61 : decode cX9_treesBy 61 = .ok (.aload_n 0, 1) := dk_42 (dk_at dksX9_treesBy_2 16 rfl rfl)
theorem dX9_treesBy_62 : decode cX9_treesBy 62 = .ok (.iload_n 3, 1) := dk_29 (dk_at dksX9_treesBy_2 17 rfl rfl)
theorem dX9_treesBy_63 : decode cX9_treesBy 63 = .ok (.iload_n 1, 1) := dk_27 (dk_at dksX9_treesBy_2 18 rfl rfl)
theorem dX9_treesBy_64 : decode cX9_treesBy 64 = .ok (.invokevirtual 139, 3) := dk_182 0 139 (dk_at dksX9_treesBy_2 19 rfl rfl)
theorem dX9_treesBy_67 : decode cX9_treesBy 67 = .ok (.ifCond .eq 22, 3) := dk_153 0 22 (dk_at dksX9_treesBy_3 0 rfl rfl)
theorem dX9_treesBy_70 : decode cX9_treesBy 70 = .ok (.iload 4, 2) := dk_21 4 (dk_at dksX9_treesBy_3 3 rfl rfl)
theorem dX9_treesBy_72 : decode cX9_treesBy 72 = .ok (.ifCond .eq 13, 3) := dk_153 0 13 (dk_at dksX9_treesBy_3 5 rfl rfl)
theorem dX9_treesBy_75 : decode cX9_treesBy 75 = .ok (.aload_n 0, 1) := dk_42 (dk_at dksX9_treesBy_3 8 rfl rfl)
theorem dX9_treesBy_76 : decode cX9_treesBy 76 = .ok (.iload 5, 2) := dk_21 5 (dk_at dksX9_treesBy_3 9 rfl rfl)
theorem dX9_treesBy_78 : decode cX9_treesBy 78 = .ok (.iload_n 1, 1) := dk_27 (dk_at dksX9_treesBy_3 11 rfl rfl)
theorem dX9_treesBy_79 : decode cX9_treesBy 79 = .ok (.invokevirtual 139, 3) := dk_182 0 139 (dk_at dksX9_treesBy_3 12 rfl rfl)
theorem dX9_treesBy_82 : decode cX9_treesBy 82 = .ok (.ifCond .ne 7, 3) := dk_154 0 7 (dk_at dksX9_treesBy_3 15 rfl rfl)
theorem dX9_treesBy_85 : decode cX9_treesBy 85 = .ok (.iconst 1, 1) := dk_4 (dk_at dksX9_treesBy_3 18 rfl rfl)
theorem dX9_treesBy_86 : decode cX9_treesBy 86 = .ok (.goto 4, 3) := dk_167 0 4 (dk_at dksX9_treesBy_3 19 rfl rfl)
theorem dX9_treesBy_89 : decode cX9_treesBy 89 = .ok (.iconst 0, 1) := dk_3 (dk_at dksX9_treesBy_3 22 rfl rfl)
theorem dX9_treesBy_90 : decode cX9_treesBy 90 = .ok (.iadd, 1) := dk_96 (dk_at dksX9_treesBy_3 23 rfl rfl)
theorem dX9_treesBy_91 : decode cX9_treesBy 91 = .ok (.istore_n 2, 1) := dk_61 (dk_at dksX9_treesBy_4 0 rfl rfl)
theorem dX9_treesBy_92 : decode cX9_treesBy 92 = .ok (.iinc 3 1, 3) := dk_132 3 1 (dk_at dksX9_treesBy_4 1 rfl rfl)
theorem dX9_treesBy_95 : decode cX9_treesBy 95 = .ok (.goto (-87), 3) := dk_167 255 169 (dk_at dksX9_treesBy_4 4 rfl rfl)
theorem dX9_treesBy_98 : decode cX9_treesBy 98 = .ok (.iload_n 2, 1) := dk_28 (dk_at dksX9_treesBy_4 7 rfl rfl)
theorem dX9_treesBy_99 : decode cX9_treesBy 99 = .ok (.ireturn, 1) := dk_172 (dk_at dksX9_treesBy_4 8 rfl rfl)
abbrev cX9_isSmall : ByteArray := prog_11_method_38_code
def yX9_isSmall : MethodName := ⟨RX9, "isSmall", "(II)Z"⟩
def dkwX9_isSmall_5 : List UInt8 := [132, 5, 1, 167, 255, 156, 21, 4, 172]
abbrev dktX9_isSmall_5 : List UInt8 := dkwX9_isSmall_5 ++ []
def dkwX9_isSmall_4 : List UInt8 := [100, 126, 96, 46, 184, 0, 106, 28, 163, 0, 7, 4, 167, 0, 4, 3, 54, 4, 132, 8, 1, 167, 255, 194]
abbrev dktX9_isSmall_4 : List UInt8 := dkwX9_isSmall_4 ++ dktX9_isSmall_5
def dkwX9_isSmall_3 : List UInt8 := [180, 0, 22, 16, 8, 21, 6, 21, 8, 21, 5, 122, 96, 104, 21, 7, 96, 21, 8, 4, 21, 5, 120, 4]
abbrev dktX9_isSmall_3 : List UInt8 := dkwX9_isSmall_3 ++ dktX9_isSmall_4
def dkwX9_isSmall_2 : List UInt8 := [120, 54, 7, 3, 54, 8, 21, 8, 4, 5, 21, 5, 104, 120, 162, 0, 57, 21, 4, 153, 0, 43, 42]
abbrev dktX9_isSmall_2 : List UInt8 := dkwX9_isSmall_2 ++ dktX9_isSmall_3
def dkwX9_isSmall_1 : List UInt8 := [29, 162, 0, 100, 21, 4, 153, 0, 95, 27, 16, 8, 108, 21, 5, 120, 54, 6, 27, 16, 8, 112, 21, 5]
abbrev dktX9_isSmall_1 : List UInt8 := dkwX9_isSmall_1 ++ dktX9_isSmall_2
def dkwX9_isSmall_0 : List UInt8 := [27, 42, 180, 0, 7, 16, 64, 46, 184, 0, 89, 62, 42, 27, 182, 0, 102, 54, 4, 3, 54, 5, 21, 5]
abbrev dktX9_isSmall_0 : List UInt8 := dkwX9_isSmall_0 ++ dktX9_isSmall_1
theorem dksX9_isSmall_0 : cX9_isSmall.data.toList.drop 0 = dktX9_isSmall_0 := by decide +kernel
theorem dksX9_isSmall_1 : cX9_isSmall.data.toList.drop 24 = dktX9_isSmall_1 := dk_seg dksX9_isSmall_0 24 rfl rfl
theorem dksX9_isSmall_2 : cX9_isSmall.data.toList.drop 48 = dktX9_isSmall_2 := dk_seg dksX9_isSmall_1 24 rfl rfl
theorem dksX9_isSmall_3 : cX9_isSmall.data.toList.drop 71 = dktX9_isSmall_3 := dk_seg dksX9_isSmall_2 23 rfl rfl
theorem dksX9_isSmall_4 : cX9_isSmall.data.toList.drop 95 = dktX9_isSmall_4 := dk_seg dksX9_isSmall_3 24 rfl rfl
theorem dksX9_isSmall_5 : cX9_isSmall.data.toList.drop 119 = dktX9_isSmall_5 := dk_seg dksX9_isSmall_4 24 rfl rfl
theorem dX9_isSmall_0 : decode cX9_isSmall 0 = .ok (.iload_n 1, 1) := dk_27 (dk_at dksX9_isSmall_0 0 rfl rfl)
theorem dX9_isSmall_1 : decode cX9_isSmall 1 = .ok (.aload_n 0, 1) := dk_42 (dk_at dksX9_isSmall_0 1 rfl rfl)
theorem dX9_isSmall_2 : decode cX9_isSmall 2 = .ok (.getfield 7, 3) := dk_180 0 7 (dk_at dksX9_isSmall_0 2 rfl rfl)
theorem dX9_isSmall_5 : decode cX9_isSmall 5 = .ok (.bipush 64, 2) := dk_16 64 (dk_at dksX9_isSmall_0 5 rfl rfl)
theorem dX9_isSmall_7 : decode cX9_isSmall 7 = .ok (.iaload, 1) := dk_46 (dk_at dksX9_isSmall_0 7 rfl rfl)
theorem dX9_isSmall_8 : decode cX9_isSmall 8 = .ok (.invokestatic 89, 3) := dk_184 0 89 (dk_at dksX9_isSmall_0 8 rfl rfl)
theorem dX9_isSmall_11 : decode cX9_isSmall 11 = .ok (.istore_n 3, 1) := dk_62 (dk_at dksX9_isSmall_0 11 rfl rfl)
theorem dX9_isSmall_12 : decode cX9_isSmall 12 = .ok (.aload_n 0, 1) := dk_42 (dk_at dksX9_isSmall_0 12 rfl rfl)
theorem dX9_isSmall_13 : decode cX9_isSmall 13 = .ok (.iload_n 1, 1) := dk_27 (dk_at dksX9_isSmall_0 13 rfl rfl)
theorem dX9_isSmall_14 : decode cX9_isSmall 14 = .ok (.invokevirtual 102, 3) := dk_182 0 102 (dk_at dksX9_isSmall_0 14 rfl rfl)
theorem dX9_isSmall_17 : decode cX9_isSmall 17 = .ok (.istore 4, 2) := dk_54 4 (dk_at dksX9_isSmall_0 17 rfl rfl)
theorem dX9_isSmall_19 : decode cX9_isSmall 19 = .ok (.iconst 0, 1) := dk_3 (dk_at dksX9_isSmall_0 19 rfl rfl)
theorem dX9_isSmall_20 : decode cX9_isSmall 20 = .ok (.istore 5, 2) := dk_54 5 (dk_at dksX9_isSmall_0 20 rfl rfl)
theorem dX9_isSmall_22 : decode cX9_isSmall 22 = .ok (.iload 5, 2) := dk_21 5 (dk_at dksX9_isSmall_0 22 rfl rfl)
theorem dX9_isSmall_24 : decode cX9_isSmall 24 = .ok (.iload_n 3, 1) := dk_29 (dk_at dksX9_isSmall_1 0 rfl rfl)
theorem dX9_isSmall_25 : decode cX9_isSmall 25 = .ok (.if_icmp .ge 100, 3) := dk_162 0 100 (dk_at dksX9_isSmall_1 1 rfl rfl)
theorem dX9_isSmall_28 : decode cX9_isSmall 28 = .ok (.iload 4, 2) := dk_21 4 (dk_at dksX9_isSmall_1 4 rfl rfl)
theorem dX9_isSmall_30 : decode cX9_isSmall 30 = .ok (.ifCond .eq 95, 3) := dk_153 0 95 (dk_at dksX9_isSmall_1 6 rfl rfl)
theorem dX9_isSmall_33 : decode cX9_isSmall 33 = .ok (.iload_n 1, 1) := dk_27 (dk_at dksX9_isSmall_1 9 rfl rfl)
theorem dX9_isSmall_34 : decode cX9_isSmall 34 = .ok (.bipush 8, 2) := dk_16 8 (dk_at dksX9_isSmall_1 10 rfl rfl)
theorem dX9_isSmall_36 : decode cX9_isSmall 36 = .ok (.idiv, 1) := dk_108 (dk_at dksX9_isSmall_1 12 rfl rfl)
theorem dX9_isSmall_37 : decode cX9_isSmall 37 = .ok (.iload 5, 2) := dk_21 5 (dk_at dksX9_isSmall_1 13 rfl rfl)
theorem dX9_isSmall_39 : decode cX9_isSmall 39 = .ok (.ishl, 1) := dk_120 (dk_at dksX9_isSmall_1 15 rfl rfl)
theorem dX9_isSmall_40 : decode cX9_isSmall 40 = .ok (.istore 6, 2) := dk_54 6 (dk_at dksX9_isSmall_1 16 rfl rfl)
theorem dX9_isSmall_42 : decode cX9_isSmall 42 = .ok (.iload_n 1, 1) := dk_27 (dk_at dksX9_isSmall_1 18 rfl rfl)
theorem dX9_isSmall_43 : decode cX9_isSmall 43 = .ok (.bipush 8, 2) := dk_16 8 (dk_at dksX9_isSmall_1 19 rfl rfl)
theorem dX9_isSmall_45 : decode cX9_isSmall 45 = .ok (.irem, 1) := dk_112 (dk_at dksX9_isSmall_1 21 rfl rfl)
theorem dX9_isSmall_46 : decode cX9_isSmall 46 = .ok (.iload 5, 2) := dk_21 5 (dk_at dksX9_isSmall_1 22 rfl rfl)
theorem dX9_isSmall_48 : decode cX9_isSmall 48 = .ok (.ishl, 1) := dk_120 (dk_at dksX9_isSmall_2 0 rfl rfl)
theorem dX9_isSmall_49 : decode cX9_isSmall 49 = .ok (.istore 7, 2) := dk_54 7 (dk_at dksX9_isSmall_2 1 rfl rfl)
theorem dX9_isSmall_51 : decode cX9_isSmall 51 = .ok (.iconst 0, 1) := dk_3 (dk_at dksX9_isSmall_2 3 rfl rfl)
theorem dX9_isSmall_52 : decode cX9_isSmall 52 = .ok (.istore 8, 2) := dk_54 8 (dk_at dksX9_isSmall_2 4 rfl rfl)
theorem dX9_isSmall_54 : decode cX9_isSmall 54 = .ok (.iload 8, 2) := dk_21 8 (dk_at dksX9_isSmall_2 6 rfl rfl)
theorem dX9_isSmall_56 : decode cX9_isSmall 56 = .ok (.iconst 1, 1) := dk_4 (dk_at dksX9_isSmall_2 8 rfl rfl)
theorem dX9_isSmall_57 : decode cX9_isSmall 57 = .ok (.iconst 2, 1) := dk_5 (dk_at dksX9_isSmall_2 9 rfl rfl)
theorem dX9_isSmall_58 : decode cX9_isSmall 58 = .ok (.iload 5, 2) := dk_21 5 (dk_at dksX9_isSmall_2 10 rfl rfl)
theorem dX9_isSmall_60 : decode cX9_isSmall 60 = .ok (.imul, 1) := dk_104 (dk_at dksX9_isSmall_2 12 rfl rfl)
theorem dX9_isSmall_61 : decode cX9_isSmall 61 = .ok (.ishl, 1) := dk_120 (dk_at dksX9_isSmall_2 13 rfl rfl)
theorem dX9_isSmall_62 : decode cX9_isSmall 62 = .ok (.if_icmp .ge 57, 3) := dk_162 0 57 (dk_at dksX9_isSmall_2 14 rfl rfl)
theorem dX9_isSmall_65 : decode cX9_isSmall 65 = .ok (.iload 4, 2) := dk_21 4 (dk_at dksX9_isSmall_2 17 rfl rfl)
theorem dX9_isSmall_67 : decode cX9_isSmall 67 = .ok (.ifCond .eq 43, 3) := dk_153 0 43 (dk_at dksX9_isSmall_2 19 rfl rfl)
theorem dX9_isSmall_70 : decode cX9_isSmall 70 = .ok (.aload_n 0, 1) := dk_42 (dk_at dksX9_isSmall_2 22 rfl rfl)
theorem dX9_isSmall_71 : decode cX9_isSmall 71 = .ok (.getfield 22, 3) := dk_180 0 22 (dk_at dksX9_isSmall_3 0 rfl rfl)
theorem dX9_isSmall_74 : decode cX9_isSmall 74 = .ok (.bipush 8, 2) := dk_16 8 (dk_at dksX9_isSmall_3 3 rfl rfl)
theorem dX9_isSmall_76 : decode cX9_isSmall 76 = .ok (.iload 6, 2) := dk_21 6 (dk_at dksX9_isSmall_3 5 rfl rfl)
theorem dX9_isSmall_78 : decode cX9_isSmall 78 = .ok (.iload 8, 2) := dk_21 8 (dk_at dksX9_isSmall_3 7 rfl rfl)
theorem dX9_isSmall_80 : decode cX9_isSmall 80 = .ok (.iload 5, 2) := dk_21 5 (dk_at dksX9_isSmall_3 9 rfl rfl)
theorem dX9_isSmall_82 : decode cX9_isSmall 82 = .ok (.ishr, 1) := dk_122 (dk_at dksX9_isSmall_3 11 rfl rfl)
theorem dX9_isSmall_83 : decode cX9_isSmall 83 = .ok (.iadd, 1) := dk_96 (dk_at dksX9_isSmall_3 12 rfl rfl)
theorem dX9_isSmall_84 : decode cX9_isSmall 84 = .ok (.imul, 1) := dk_104 (dk_at dksX9_isSmall_3 13 rfl rfl)
theorem dX9_isSmall_85 : decode cX9_isSmall 85 = .ok (.iload 7, 2) := dk_21 7 (dk_at dksX9_isSmall_3 14 rfl rfl)
theorem dX9_isSmall_87 : decode cX9_isSmall 87 = .ok (.iadd, 1) := dk_96 (dk_at dksX9_isSmall_3 16 rfl rfl)
theorem dX9_isSmall_88 : decode cX9_isSmall 88 = .ok (.iload 8, 2) := dk_21 8 (dk_at dksX9_isSmall_3 17 rfl rfl)
theorem dX9_isSmall_90 : decode cX9_isSmall 90 = .ok (.iconst 1, 1) := dk_4 (dk_at dksX9_isSmall_3 19 rfl rfl)
theorem dX9_isSmall_91 : decode cX9_isSmall 91 = .ok (.iload 5, 2) := dk_21 5 (dk_at dksX9_isSmall_3 20 rfl rfl)
theorem dX9_isSmall_93 : decode cX9_isSmall 93 = .ok (.ishl, 1) := dk_120 (dk_at dksX9_isSmall_3 22 rfl rfl)
theorem dX9_isSmall_94 : decode cX9_isSmall 94 = .ok (.iconst 1, 1) := dk_4 (dk_at dksX9_isSmall_3 23 rfl rfl)
theorem dX9_isSmall_95 : decode cX9_isSmall 95 = .ok (.isub, 1) := dk_100 (dk_at dksX9_isSmall_4 0 rfl rfl)
theorem dX9_isSmall_96 : decode cX9_isSmall 96 = .ok (.iand, 1) := dk_126 (dk_at dksX9_isSmall_4 1 rfl rfl)
theorem dX9_isSmall_97 : decode cX9_isSmall 97 = .ok (.iadd, 1) := dk_96 (dk_at dksX9_isSmall_4 2 rfl rfl)
theorem dX9_isSmall_98 : decode cX9_isSmall 98 = .ok (.iaload, 1) := dk_46 (dk_at dksX9_isSmall_4 3 rfl rfl)
theorem dX9_isSmall_99 : decode cX9_isSmall 99 = .ok (.invokestatic 106, 3) := dk_184 0 106 (dk_at dksX9_isSmall_4 4 rfl rfl)
theorem dX9_isSmall_102 : decode cX9_isSmall 102 = .ok (.iload_n 2, 1) := dk_28 (dk_at dksX9_isSmall_4 7 rfl rfl)
theorem dX9_isSmall_103 : decode cX9_isSmall 103 = .ok (.if_icmp .gt 7, 3) := dk_163 0 7 (dk_at dksX9_isSmall_4 8 rfl rfl)
theorem dX9_isSmall_106 : decode cX9_isSmall 106 = .ok (.iconst 1, 1) := dk_4 (dk_at dksX9_isSmall_4 11 rfl rfl)
theorem dX9_isSmall_107 : decode cX9_isSmall 107 = .ok (.goto 4, 3) := dk_167 0 4 (dk_at dksX9_isSmall_4 12 rfl rfl)
theorem dX9_isSmall_110 : decode cX9_isSmall 110 = .ok (.iconst 0, 1) := dk_3 (dk_at dksX9_isSmall_4 15 rfl rfl)
theorem dX9_isSmall_111 : decode cX9_isSmall 111 = .ok (.istore 4, 2) := dk_54 4 (dk_at dksX9_isSmall_4 16 rfl rfl)
theorem dX9_isSmall_113 : decode cX9_isSmall 113 = .ok (.iinc 8 1, 3) := dk_132 8 1 (dk_at dksX9_isSmall_4 18 rfl rfl)
theorem dX9_isSmall_116 : decode cX9_isSmall 116 = .ok (.goto (-62), 3) := dk_167 255 194 (dk_at dksX9_isSmall_4 21 rfl rfl)
theorem dX9_isSmall_119 : decode cX9_isSmall 119 = .ok (.iinc 5 1, 3) := dk_132 5 1 (dk_at dksX9_isSmall_5 0 rfl rfl)
theorem dX9_isSmall_122 : decode cX9_isSmall 122 = .ok (.goto (-100), 3) := dk_167 255 156 (dk_at dksX9_isSmall_5 3 rfl rfl)
theorem dX9_isSmall_125 : decode cX9_isSmall 125 = .ok (.iload 4, 2) := dk_21 4 (dk_at dksX9_isSmall_5 6 rfl rfl)
theorem dX9_isSmall_127 : decode cX9_isSmall 127 = .ok (.ireturn, 1) := dk_172 (dk_at dksX9_isSmall_5 8 rfl rfl)
abbrev cX9_treesFromBelow : ByteArray := prog_11_method_41_code
def yX9_treesFromBelow : MethodName := ⟨RX9, "treesFromBelow", "(I)I"⟩
def dkwX9_treesFromBelow_1 : List UInt8 := [182, 0, 63, 172]
abbrev dktX9_treesFromBelow_1 : List UInt8 := dkwX9_treesFromBelow_1 ++ []
def dkwX9_treesFromBelow_0 : List UInt8 := [42, 3, 181, 0, 52, 27, 184, 0, 127, 153, 0, 11, 42, 27, 182, 0, 143, 167, 0, 8, 42, 4]
abbrev dktX9_treesFromBelow_0 : List UInt8 := dkwX9_treesFromBelow_0 ++ dktX9_treesFromBelow_1
theorem dksX9_treesFromBelow_0 : cX9_treesFromBelow.data.toList.drop 0 = dktX9_treesFromBelow_0 := by decide +kernel
theorem dksX9_treesFromBelow_1 : cX9_treesFromBelow.data.toList.drop 22 = dktX9_treesFromBelow_1 := dk_seg dksX9_treesFromBelow_0 22 rfl rfl
theorem dX9_treesFromBelow_0 : decode cX9_treesFromBelow 0 = .ok (.aload_n 0, 1) := dk_42 (dk_at dksX9_treesFromBelow_0 0 rfl rfl)
theorem dX9_treesFromBelow_1 : decode cX9_treesFromBelow 1 = .ok (.iconst 0, 1) := dk_3 (dk_at dksX9_treesFromBelow_0 1 rfl rfl)
theorem dX9_treesFromBelow_2 : decode cX9_treesFromBelow 2 = .ok (.putfield 52, 3) := dk_181 0 52 (dk_at dksX9_treesFromBelow_0 2 rfl rfl)
theorem dX9_treesFromBelow_5 : decode cX9_treesFromBelow 5 = .ok (.iload_n 1, 1) := dk_27 (dk_at dksX9_treesFromBelow_0 5 rfl rfl)
theorem dX9_treesFromBelow_6 : decode cX9_treesFromBelow 6 = .ok (.invokestatic 127, 3) := dk_184 0 127 (dk_at dksX9_treesFromBelow_0 6 rfl rfl)
theorem dX9_treesFromBelow_9 : decode cX9_treesFromBelow 9 = .ok (.ifCond .eq 11, 3) := dk_153 0 11 (dk_at dksX9_treesFromBelow_0 9 rfl rfl)
theorem dX9_treesFromBelow_12 : decode cX9_treesFromBelow 12 = .ok (.aload_n 0, 1) := dk_42 (dk_at dksX9_treesFromBelow_0 12 rfl rfl)
theorem dX9_treesFromBelow_13 : decode cX9_treesFromBelow 13 = .ok (.iload_n 1, 1) := dk_27 (dk_at dksX9_treesFromBelow_0 13 rfl rfl)
theorem dX9_treesFromBelow_14 : decode cX9_treesFromBelow 14 = .ok (.invokevirtual 143, 3) := dk_182 0 143 (dk_at dksX9_treesFromBelow_0 14 rfl rfl)
theorem dX9_treesFromBelow_17 : decode cX9_treesFromBelow 17 = .ok (.goto 8, 3) := dk_167 0 8 (dk_at dksX9_treesFromBelow_0 17 rfl rfl)
theorem dX9_treesFromBelow_20 : decode cX9_treesFromBelow 20 = .ok (.aload_n 0, 1) := dk_42 (dk_at dksX9_treesFromBelow_0 20 rfl rfl)
theorem dX9_treesFromBelow_21 : decode cX9_treesFromBelow 21 = .ok (.iconst 1, 1) := dk_4 (dk_at dksX9_treesFromBelow_0 21 rfl rfl)
theorem dX9_treesFromBelow_22 : decode cX9_treesFromBelow 22 = .ok (.invokevirtual 63, 3) := dk_182 0 63 (dk_at dksX9_treesFromBelow_1 0 rfl rfl)
theorem dX9_treesFromBelow_25 : decode cX9_treesFromBelow 25 = .ok (.ireturn, 1) := dk_172 (dk_at dksX9_treesFromBelow_1 3 rfl rfl)
abbrev cX9_isTree : ByteArray := prog_11_method_42_code
def yX9_isTree : MethodName := ⟨RX9, "isTree", "(III)Z"⟩
def dkwX9_isTree_2 : List UInt8 := [29, 182, 0, 139, 172]
abbrev dktX9_isTree_2 : List UInt8 := dkwX9_isTree_2 ++ []
def dkwX9_isTree_1 : List UInt8 := [3, 181, 0, 52, 42, 180, 0, 52, 158, 0, 5, 3, 172, 42, 182, 0, 99, 42, 16, 8, 27, 104, 28, 96]
abbrev dktX9_isTree_1 : List UInt8 := dkwX9_isTree_1 ++ dktX9_isTree_2
def dkwX9_isTree_0 : List UInt8 := [42, 27, 28, 184, 0, 146, 154, 0, 7, 4, 167, 0, 15, 29, 184, 0, 127, 154, 0, 7, 5, 167, 0, 4]
abbrev dktX9_isTree_0 : List UInt8 := dkwX9_isTree_0 ++ dktX9_isTree_1
theorem dksX9_isTree_0 : cX9_isTree.data.toList.drop 0 = dktX9_isTree_0 := by decide +kernel
theorem dksX9_isTree_1 : cX9_isTree.data.toList.drop 24 = dktX9_isTree_1 := dk_seg dksX9_isTree_0 24 rfl rfl
theorem dksX9_isTree_2 : cX9_isTree.data.toList.drop 48 = dktX9_isTree_2 := dk_seg dksX9_isTree_1 24 rfl rfl
theorem dX9_isTree_0 : decode cX9_isTree 0 = .ok (.aload_n 0, 1) := dk_42 (dk_at dksX9_isTree_0 0 rfl rfl)
theorem dX9_isTree_1 : decode cX9_isTree 1 = .ok (.iload_n 1, 1) := dk_27 (dk_at dksX9_isTree_0 1 rfl rfl)
theorem dX9_isTree_2 : decode cX9_isTree 2 = .ok (.iload_n 2, 1) := dk_28 (dk_at dksX9_isTree_0 2 rfl rfl)
theorem dX9_isTree_3 : decode cX9_isTree 3 = .ok (.invokestatic 146, 3) := dk_184 0 146 (dk_at dksX9_isTree_0 3 rfl rfl)
theorem dX9_isTree_6 : decode cX9_isTree 6 = .ok (.ifCond .ne 7, 3) := dk_154 0 7 (dk_at dksX9_isTree_0 6 rfl rfl)
theorem dX9_isTree_9 : decode cX9_isTree 9 = .ok (.iconst 1, 1) := dk_4 (dk_at dksX9_isTree_0 9 rfl rfl)
theorem dX9_isTree_10 : decode cX9_isTree 10 = .ok (.goto 15, 3) := dk_167 0 15 (dk_at dksX9_isTree_0 10 rfl rfl)
theorem dX9_isTree_13 : decode cX9_isTree 13 = .ok (.iload_n 3, 1) := dk_29 (dk_at dksX9_isTree_0 13 rfl rfl)
theorem dX9_isTree_14 : decode cX9_isTree 14 = .ok (.invokestatic 127, 3) := dk_184 0 127 (dk_at dksX9_isTree_0 14 rfl rfl)
theorem dX9_isTree_17 : decode cX9_isTree 17 = .ok (.ifCond .ne 7, 3) := dk_154 0 7 (dk_at dksX9_isTree_0 17 rfl rfl)
theorem dX9_isTree_20 : decode cX9_isTree 20 = .ok (.iconst 2, 1) := dk_5 (dk_at dksX9_isTree_0 20 rfl rfl)
theorem dX9_isTree_21 : decode cX9_isTree 21 = .ok (.goto 4, 3) := dk_167 0 4 (dk_at dksX9_isTree_0 21 rfl rfl)
theorem dX9_isTree_24 : decode cX9_isTree 24 = .ok (.iconst 0, 1) := dk_3 (dk_at dksX9_isTree_1 0 rfl rfl)
theorem dX9_isTree_25 : decode cX9_isTree 25 = .ok (.putfield 52, 3) := dk_181 0 52 (dk_at dksX9_isTree_1 1 rfl rfl)
theorem dX9_isTree_28 : decode cX9_isTree 28 = .ok (.aload_n 0, 1) := dk_42 (dk_at dksX9_isTree_1 4 rfl rfl)
theorem dX9_isTree_29 : decode cX9_isTree 29 = .ok (.getfield 52, 3) := dk_180 0 52 (dk_at dksX9_isTree_1 5 rfl rfl)
theorem dX9_isTree_32 : decode cX9_isTree 32 = .ok (.ifCond .le 5, 3) := dk_158 0 5 (dk_at dksX9_isTree_1 8 rfl rfl)
theorem dX9_isTree_35 : decode cX9_isTree 35 = .ok (.iconst 0, 1) := dk_3 (dk_at dksX9_isTree_1 11 rfl rfl)
theorem dX9_isTree_36 : decode cX9_isTree 36 = .ok (.ireturn, 1) := dk_172 (dk_at dksX9_isTree_1 12 rfl rfl)
theorem dX9_isTree_37 : decode cX9_isTree 37 = .ok (.aload_n 0, 1) := dk_42 (dk_at dksX9_isTree_1 13 rfl rfl)
theorem dX9_isTree_38 : decode cX9_isTree 38 = .ok (.invokevirtual 99, 3) := dk_182 0 99 (dk_at dksX9_isTree_1 14 rfl rfl)
theorem dX9_isTree_41 : decode cX9_isTree 41 = .ok (.aload_n 0, 1) := dk_42 (dk_at dksX9_isTree_1 17 rfl rfl)
theorem dX9_isTree_42 : decode cX9_isTree 42 = .ok (.bipush 8, 2) := dk_16 8 (dk_at dksX9_isTree_1 18 rfl rfl)
theorem dX9_isTree_44 : decode cX9_isTree 44 = .ok (.iload_n 1, 1) := dk_27 (dk_at dksX9_isTree_1 20 rfl rfl)
theorem dX9_isTree_45 : decode cX9_isTree 45 = .ok (.imul, 1) := dk_104 (dk_at dksX9_isTree_1 21 rfl rfl)
theorem dX9_isTree_46 : decode cX9_isTree 46 = .ok (.iload_n 2, 1) := dk_28 (dk_at dksX9_isTree_1 22 rfl rfl)
theorem dX9_isTree_47 : decode cX9_isTree 47 = .ok (.iadd, 1) := dk_96 (dk_at dksX9_isTree_1 23 rfl rfl)
theorem dX9_isTree_48 : decode cX9_isTree 48 = .ok (.iload_n 3, 1) := dk_29 (dk_at dksX9_isTree_2 0 rfl rfl)
theorem dX9_isTree_49 : decode cX9_isTree 49 = .ok (.invokevirtual 139, 3) := dk_182 0 139 (dk_at dksX9_isTree_2 1 rfl rfl)
theorem dX9_isTree_52 : decode cX9_isTree 52 = .ok (.ireturn, 1) := dk_172 (dk_at dksX9_isTree_2 4 rfl rfl)
abbrev cX9_isCell : ByteArray := prog_11_method_5_code
def yX9_isCell : MethodName := ⟨RX9, "isCell", "(II)Z"⟩
def dkwX9_isCell_1 : List UInt8 := [3, 172]
abbrev dktX9_isCell_1 : List UInt8 := dkwX9_isCell_1 ++ []
def dkwX9_isCell_0 : List UInt8 := [26, 3, 16, 7, 184, 0, 56, 153, 0, 17, 27, 3, 16, 7, 184, 0, 56, 153, 0, 7, 4, 167, 0, 4]
abbrev dktX9_isCell_0 : List UInt8 := dkwX9_isCell_0 ++ dktX9_isCell_1
theorem dksX9_isCell_0 : cX9_isCell.data.toList.drop 0 = dktX9_isCell_0 := by decide +kernel
theorem dksX9_isCell_1 : cX9_isCell.data.toList.drop 24 = dktX9_isCell_1 := dk_seg dksX9_isCell_0 24 rfl rfl
theorem dX9_isCell_0 : decode cX9_isCell 0 = .ok (.iload_n 0, 1) := dk_26 (dk_at dksX9_isCell_0 0 rfl rfl)
theorem dX9_isCell_1 : decode cX9_isCell 1 = .ok (.iconst 0, 1) := dk_3 (dk_at dksX9_isCell_0 1 rfl rfl)
theorem dX9_isCell_2 : decode cX9_isCell 2 = .ok (.bipush 7, 2) := dk_16 7 (dk_at dksX9_isCell_0 2 rfl rfl)
theorem dX9_isCell_4 : decode cX9_isCell 4 = .ok (.invokestatic 56, 3) := dk_184 0 56 (dk_at dksX9_isCell_0 4 rfl rfl)
theorem dX9_isCell_7 : decode cX9_isCell 7 = .ok (.ifCond .eq 17, 3) := dk_153 0 17 (dk_at dksX9_isCell_0 7 rfl rfl)
theorem dX9_isCell_10 : decode cX9_isCell 10 = .ok (.iload_n 1, 1) := dk_27 (dk_at dksX9_isCell_0 10 rfl rfl)
theorem dX9_isCell_11 : decode cX9_isCell 11 = .ok (.iconst 0, 1) := dk_3 (dk_at dksX9_isCell_0 11 rfl rfl)
theorem dX9_isCell_12 : decode cX9_isCell 12 = .ok (.bipush 7, 2) := dk_16 7 (dk_at dksX9_isCell_0 12 rfl rfl)
theorem dX9_isCell_14 : decode cX9_isCell 14 = .ok (.invokestatic 56, 3) := dk_184 0 56 (dk_at dksX9_isCell_0 14 rfl rfl)
theorem dX9_isCell_17 : decode cX9_isCell 17 = .ok (.ifCond .eq 7, 3) := dk_153 0 7 (dk_at dksX9_isCell_0 17 rfl rfl)
theorem dX9_isCell_20 : decode cX9_isCell 20 = .ok (.iconst 1, 1) := dk_4 (dk_at dksX9_isCell_0 20 rfl rfl)
theorem dX9_isCell_21 : decode cX9_isCell 21 = .ok (.goto 4, 3) := dk_167 0 4 (dk_at dksX9_isCell_0 21 rfl rfl)
theorem dX9_isCell_24 : decode cX9_isCell 24 = .ok (.iconst 0, 1) := dk_3 (dk_at dksX9_isCell_1 0 rfl rfl)
theorem dX9_isCell_25 : decode cX9_isCell 25 = .ok (.ireturn, 1) := dk_172 (dk_at dksX9_isCell_1 1 rfl rfl)
abbrev cX9_codeLength : ByteArray := prog_11_method_49_code
def yX9_codeLength : MethodName := ⟨RX9, "codeLength", "()I"⟩
def dkwX9_codeLength_0 : List UInt8 := [42, 3, 181, 0, 52, 42, 182, 0, 161, 42, 182, 0, 164, 172]
abbrev dktX9_codeLength_0 : List UInt8 := dkwX9_codeLength_0 ++ []
theorem dksX9_codeLength_0 : cX9_codeLength.data.toList.drop 0 = dktX9_codeLength_0 := by decide +kernel
theorem dX9_codeLength_0 : decode cX9_codeLength 0 = .ok (.aload_n 0, 1) := dk_42 (dk_at dksX9_codeLength_0 0 rfl rfl)
theorem dX9_codeLength_1 : decode cX9_codeLength 1 = .ok (.iconst 0, 1) := dk_3 (dk_at dksX9_codeLength_0 1 rfl rfl)
theorem dX9_codeLength_2 : decode cX9_codeLength 2 = .ok (.putfield 52, 3) := dk_181 0 52 (dk_at dksX9_codeLength_0 2 rfl rfl)
theorem dX9_codeLength_5 : decode cX9_codeLength 5 = .ok (.aload_n 0, 1) := dk_42 (dk_at dksX9_codeLength_0 5 rfl rfl)
theorem dX9_codeLength_6 : decode cX9_codeLength 6 = .ok (.invokevirtual 161, 3) := dk_182 0 161 (dk_at dksX9_codeLength_0 6 rfl rfl)
theorem dX9_codeLength_9 : decode cX9_codeLength 9 = .ok (.aload_n 0, 1) := dk_42 (dk_at dksX9_codeLength_0 9 rfl rfl)
theorem dX9_codeLength_10 : decode cX9_codeLength 10 = .ok (.invokevirtual 164, 3) := dk_182 0 164 (dk_at dksX9_codeLength_0 10 rfl rfl)
theorem dX9_codeLength_13 : decode cX9_codeLength 13 = .ok (.ireturn, 1) := dk_172 (dk_at dksX9_codeLength_0 13 rfl rfl)
abbrev cX9_layCode : ByteArray := prog_11_method_48_code
def yX9_layCode : MethodName := ⟨RX9, "layCode", "()V"⟩
def dkwX9_layCode_0 : List UInt8 := [42, 182, 0, 99, 42, 42, 180, 0, 7, 16, 64, 46, 182, 0, 158, 177]
abbrev dktX9_layCode_0 : List UInt8 := dkwX9_layCode_0 ++ []
theorem dksX9_layCode_0 : cX9_layCode.data.toList.drop 0 = dktX9_layCode_0 := by decide +kernel
theorem dX9_layCode_0 : decode cX9_layCode 0 = .ok (.aload_n 0, 1) := dk_42 (dk_at dksX9_layCode_0 0 rfl rfl)
theorem dX9_layCode_1 : decode cX9_layCode 1 = .ok (.invokevirtual 99, 3) := dk_182 0 99 (dk_at dksX9_layCode_0 1 rfl rfl)
theorem dX9_layCode_4 : decode cX9_layCode 4 = .ok (.aload_n 0, 1) := dk_42 (dk_at dksX9_layCode_0 4 rfl rfl)
theorem dX9_layCode_5 : decode cX9_layCode 5 = .ok (.aload_n 0, 1) := dk_42 (dk_at dksX9_layCode_0 5 rfl rfl)
theorem dX9_layCode_6 : decode cX9_layCode 6 = .ok (.getfield 7, 3) := dk_180 0 7 (dk_at dksX9_layCode_0 6 rfl rfl)
theorem dX9_layCode_9 : decode cX9_layCode 9 = .ok (.bipush 64, 2) := dk_16 64 (dk_at dksX9_layCode_0 9 rfl rfl)
theorem dX9_layCode_11 : decode cX9_layCode 11 = .ok (.iaload, 1) := dk_46 (dk_at dksX9_layCode_0 11 rfl rfl)
theorem dX9_layCode_12 : decode cX9_layCode 12 = .ok (.invokevirtual 158, 3) := dk_182 0 158 (dk_at dksX9_layCode_0 12 rfl rfl)
theorem dX9_layCode_15 : decode cX9_layCode 15 = .ok (.return_, 1) := dk_177 (dk_at dksX9_layCode_0 15 rfl rfl)
abbrev cX9_layOrder : ByteArray := prog_11_method_23_code
def yX9_layOrder : MethodName := ⟨RX9, "layOrder", "(I)V"⟩
def dkwX9_layOrder_3 : List UInt8 := [132, 4, 1, 167, 255, 222, 42, 180, 0, 31, 29, 28, 79, 132, 2, 1, 167, 255, 198, 177]
abbrev dktX9_layOrder_3 : List UInt8 := dkwX9_layOrder_3 ++ []
def dkwX9_layOrder_2 : List UInt8 := [42, 180, 0, 34, 21, 4, 46, 42, 180, 0, 34, 28, 46, 162, 0, 7, 4, 167, 0, 4, 3, 96, 62]
abbrev dktX9_layOrder_2 : List UInt8 := dkwX9_layOrder_2 ++ dktX9_layOrder_3
def dkwX9_layOrder_1 : List UInt8 := [167, 255, 236, 3, 61, 28, 16, 64, 162, 0, 58, 3, 62, 3, 54, 4, 21, 4, 16, 64, 162, 0, 33, 29]
abbrev dktX9_layOrder_1 : List UInt8 := dkwX9_layOrder_1 ++ dktX9_layOrder_2
def dkwX9_layOrder_0 : List UInt8 := [3, 61, 28, 16, 64, 162, 0, 20, 42, 180, 0, 34, 28, 28, 27, 184, 0, 96, 79, 132, 2, 1]
abbrev dktX9_layOrder_0 : List UInt8 := dkwX9_layOrder_0 ++ dktX9_layOrder_1
theorem dksX9_layOrder_0 : cX9_layOrder.data.toList.drop 0 = dktX9_layOrder_0 := by decide +kernel
theorem dksX9_layOrder_1 : cX9_layOrder.data.toList.drop 22 = dktX9_layOrder_1 := dk_seg dksX9_layOrder_0 22 rfl rfl
theorem dksX9_layOrder_2 : cX9_layOrder.data.toList.drop 46 = dktX9_layOrder_2 := dk_seg dksX9_layOrder_1 24 rfl rfl
theorem dksX9_layOrder_3 : cX9_layOrder.data.toList.drop 69 = dktX9_layOrder_3 := dk_seg dksX9_layOrder_2 23 rfl rfl
theorem dX9_layOrder_0 : decode cX9_layOrder 0 = .ok (.iconst 0, 1) := dk_3 (dk_at dksX9_layOrder_0 0 rfl rfl)
theorem dX9_layOrder_1 : decode cX9_layOrder 1 = .ok (.istore_n 2, 1) := dk_61 (dk_at dksX9_layOrder_0 1 rfl rfl)
theorem dX9_layOrder_2 : decode cX9_layOrder 2 = .ok (.iload_n 2, 1) := dk_28 (dk_at dksX9_layOrder_0 2 rfl rfl)
theorem dX9_layOrder_3 : decode cX9_layOrder 3 = .ok (.bipush 64, 2) := dk_16 64 (dk_at dksX9_layOrder_0 3 rfl rfl)
theorem dX9_layOrder_5 : decode cX9_layOrder 5 = .ok (.if_icmp .ge 20, 3) := dk_162 0 20 (dk_at dksX9_layOrder_0 5 rfl rfl)
theorem dX9_layOrder_8 : decode cX9_layOrder 8 = .ok (.aload_n 0, 1) := dk_42 (dk_at dksX9_layOrder_0 8 rfl rfl)
theorem dX9_layOrder_9 : decode cX9_layOrder 9 = .ok (.getfield 34, 3) := dk_180 0 34 (dk_at dksX9_layOrder_0 9 rfl rfl)
theorem dX9_layOrder_12 : decode cX9_layOrder 12 = .ok (.iload_n 2, 1) := dk_28 (dk_at dksX9_layOrder_0 12 rfl rfl)
theorem dX9_layOrder_13 : decode cX9_layOrder 13 = .ok (.iload_n 2, 1) := dk_28 (dk_at dksX9_layOrder_0 13 rfl rfl)
theorem dX9_layOrder_14 : decode cX9_layOrder 14 = .ok (.iload_n 1, 1) := dk_27 (dk_at dksX9_layOrder_0 14 rfl rfl)
theorem dX9_layOrder_15 : decode cX9_layOrder 15 = .ok (.invokestatic 96, 3) := dk_184 0 96 (dk_at dksX9_layOrder_0 15 rfl rfl)
theorem dX9_layOrder_18 : decode cX9_layOrder 18 = .ok (.iastore, 1) := dk_79 (dk_at dksX9_layOrder_0 18 rfl rfl)
theorem dX9_layOrder_19 : decode cX9_layOrder 19 = .ok (.iinc 2 1, 3) := dk_132 2 1 (dk_at dksX9_layOrder_0 19 rfl rfl)
theorem dX9_layOrder_22 : decode cX9_layOrder 22 = .ok (.goto (-20), 3) := dk_167 255 236 (dk_at dksX9_layOrder_1 0 rfl rfl)
theorem dX9_layOrder_25 : decode cX9_layOrder 25 = .ok (.iconst 0, 1) := dk_3 (dk_at dksX9_layOrder_1 3 rfl rfl)
theorem dX9_layOrder_26 : decode cX9_layOrder 26 = .ok (.istore_n 2, 1) := dk_61 (dk_at dksX9_layOrder_1 4 rfl rfl)
theorem dX9_layOrder_27 : decode cX9_layOrder 27 = .ok (.iload_n 2, 1) := dk_28 (dk_at dksX9_layOrder_1 5 rfl rfl)
theorem dX9_layOrder_28 : decode cX9_layOrder 28 = .ok (.bipush 64, 2) := dk_16 64 (dk_at dksX9_layOrder_1 6 rfl rfl)
theorem dX9_layOrder_30 : decode cX9_layOrder 30 = .ok (.if_icmp .ge 58, 3) := dk_162 0 58 (dk_at dksX9_layOrder_1 8 rfl rfl)
theorem dX9_layOrder_33 : decode cX9_layOrder 33 = .ok (.iconst 0, 1) := dk_3 (dk_at dksX9_layOrder_1 11 rfl rfl)
theorem dX9_layOrder_34 : decode cX9_layOrder 34 = .ok (.istore_n 3, 1) := dk_62 (dk_at dksX9_layOrder_1 12 rfl rfl)
theorem dX9_layOrder_35 : decode cX9_layOrder 35 = .ok (.iconst 0, 1) := dk_3 (dk_at dksX9_layOrder_1 13 rfl rfl)
theorem dX9_layOrder_36 : decode cX9_layOrder 36 = .ok (.istore 4, 2) := dk_54 4 (dk_at dksX9_layOrder_1 14 rfl rfl)
theorem dX9_layOrder_38 : decode cX9_layOrder 38 = .ok (.iload 4, 2) := dk_21 4 (dk_at dksX9_layOrder_1 16 rfl rfl)
theorem dX9_layOrder_40 : decode cX9_layOrder 40 = .ok (.bipush 64, 2) := dk_16 64 (dk_at dksX9_layOrder_1 18 rfl rfl)
theorem dX9_layOrder_42 : decode cX9_layOrder 42 = .ok (.if_icmp .ge 33, 3) := dk_162 0 33 (dk_at dksX9_layOrder_1 20 rfl rfl)
theorem dX9_layOrder_45 : decode cX9_layOrder 45 = .ok (.iload_n 3, 1) := dk_29 (dk_at dksX9_layOrder_1 23 rfl rfl)
theorem dX9_layOrder_46 : decode cX9_layOrder 46 = .ok (.aload_n 0, 1) := dk_42 (dk_at dksX9_layOrder_2 0 rfl rfl)
theorem dX9_layOrder_47 : decode cX9_layOrder 47 = .ok (.getfield 34, 3) := dk_180 0 34 (dk_at dksX9_layOrder_2 1 rfl rfl)
theorem dX9_layOrder_50 : decode cX9_layOrder 50 = .ok (.iload 4, 2) := dk_21 4 (dk_at dksX9_layOrder_2 4 rfl rfl)
theorem dX9_layOrder_52 : decode cX9_layOrder 52 = .ok (.iaload, 1) := dk_46 (dk_at dksX9_layOrder_2 6 rfl rfl)
theorem dX9_layOrder_53 : decode cX9_layOrder 53 = .ok (.aload_n 0, 1) := dk_42 (dk_at dksX9_layOrder_2 7 rfl rfl)
theorem dX9_layOrder_54 : decode cX9_layOrder 54 = .ok (.getfield 34, 3) := dk_180 0 34 (dk_at dksX9_layOrder_2 8 rfl rfl)
theorem dX9_layOrder_57 : decode cX9_layOrder 57 = .ok (.iload_n 2, 1) := dk_28 (dk_at dksX9_layOrder_2 11 rfl rfl)
theorem dX9_layOrder_58 : decode cX9_layOrder 58 = .ok (.iaload, 1) := dk_46 (dk_at dksX9_layOrder_2 12 rfl rfl)
theorem dX9_layOrder_59 : decode cX9_layOrder 59 = .ok (.if_icmp .ge 7, 3) := dk_162 0 7 (dk_at dksX9_layOrder_2 13 rfl rfl)
theorem dX9_layOrder_62 : decode cX9_layOrder 62 = .ok (.iconst 1, 1) := dk_4 (dk_at dksX9_layOrder_2 16 rfl rfl)
theorem dX9_layOrder_63 : decode cX9_layOrder 63 = .ok (.goto 4, 3) := dk_167 0 4 (dk_at dksX9_layOrder_2 17 rfl rfl)
theorem dX9_layOrder_66 : decode cX9_layOrder 66 = .ok (.iconst 0, 1) := dk_3 (dk_at dksX9_layOrder_2 20 rfl rfl)
theorem dX9_layOrder_67 : decode cX9_layOrder 67 = .ok (.iadd, 1) := dk_96 (dk_at dksX9_layOrder_2 21 rfl rfl)
theorem dX9_layOrder_68 : decode cX9_layOrder 68 = .ok (.istore_n 3, 1) := dk_62 (dk_at dksX9_layOrder_2 22 rfl rfl)
theorem dX9_layOrder_69 : decode cX9_layOrder 69 = .ok (.iinc 4 1, 3) := dk_132 4 1 (dk_at dksX9_layOrder_3 0 rfl rfl)
theorem dX9_layOrder_72 : decode cX9_layOrder 72 = .ok (.goto (-34), 3) := dk_167 255 222 (dk_at dksX9_layOrder_3 3 rfl rfl)
theorem dX9_layOrder_75 : decode cX9_layOrder 75 = .ok (.aload_n 0, 1) := dk_42 (dk_at dksX9_layOrder_3 6 rfl rfl)
theorem dX9_layOrder_76 : decode cX9_layOrder 76 = .ok (.getfield 31, 3) := dk_180 0 31 (dk_at dksX9_layOrder_3 7 rfl rfl)
theorem dX9_layOrder_79 : decode cX9_layOrder 79 = .ok (.iload_n 3, 1) := dk_29 (dk_at dksX9_layOrder_3 10 rfl rfl)
theorem dX9_layOrder_80 : decode cX9_layOrder 80 = .ok (.iload_n 2, 1) := dk_28 (dk_at dksX9_layOrder_3 11 rfl rfl)
theorem dX9_layOrder_81 : decode cX9_layOrder 81 = .ok (.iastore, 1) := dk_79 (dk_at dksX9_layOrder_3 12 rfl rfl)
theorem dX9_layOrder_82 : decode cX9_layOrder 82 = .ok (.iinc 2 1, 3) := dk_132 2 1 (dk_at dksX9_layOrder_3 13 rfl rfl)
theorem dX9_layOrder_85 : decode cX9_layOrder 85 = .ok (.goto (-58), 3) := dk_167 255 198 (dk_at dksX9_layOrder_3 16 rfl rfl)
theorem dX9_layOrder_88 : decode cX9_layOrder 88 = .ok (.return_, 1) := dk_177 (dk_at dksX9_layOrder_3 19 rfl rfl)
abbrev cX9_rankBy : ByteArray := prog_11_method_21_code
def yX9_rankBy : MethodName := ⟨RX9, "rankBy", "(II)I"⟩
def dkwX9_rankBy_1 : List UInt8 := [96, 28, 4, 100, 6, 112, 96, 62, 16, 64, 29, 104, 26, 96, 172]
abbrev dktX9_rankBy_1 : List UInt8 := dkwX9_rankBy_1 ++ []
def dkwX9_rankBy_0 : List UInt8 := [26, 27, 184, 0, 93, 61, 28, 154, 0, 7, 3, 167, 0, 20, 4, 6, 27, 26, 27, 184, 0, 89, 100, 104]
abbrev dktX9_rankBy_0 : List UInt8 := dkwX9_rankBy_0 ++ dktX9_rankBy_1
theorem dksX9_rankBy_0 : cX9_rankBy.data.toList.drop 0 = dktX9_rankBy_0 := by decide +kernel
theorem dksX9_rankBy_1 : cX9_rankBy.data.toList.drop 24 = dktX9_rankBy_1 := dk_seg dksX9_rankBy_0 24 rfl rfl
theorem dX9_rankBy_0 : decode cX9_rankBy 0 = .ok (.iload_n 0, 1) := dk_26 (dk_at dksX9_rankBy_0 0 rfl rfl)
theorem dX9_rankBy_1 : decode cX9_rankBy 1 = .ok (.iload_n 1, 1) := dk_27 (dk_at dksX9_rankBy_0 1 rfl rfl)
theorem dX9_rankBy_2 : decode cX9_rankBy 2 = .ok (.invokestatic 93, 3) := dk_184 0 93 (dk_at dksX9_rankBy_0 2 rfl rfl)
theorem dX9_rankBy_5 : decode cX9_rankBy 5 = .ok (.istore_n 2, 1) := dk_61 (dk_at dksX9_rankBy_0 5 rfl rfl)
theorem dX9_rankBy_6 : decode cX9_rankBy 6 = .ok (.iload_n 2, 1) := dk_28 (dk_at dksX9_rankBy_0 6 rfl rfl)
theorem dX9_rankBy_7 : decode cX9_rankBy 7 = .ok (.ifCond .ne 7, 3) := dk_154 0 7 (dk_at dksX9_rankBy_0 7 rfl rfl)
theorem dX9_rankBy_10 : decode cX9_rankBy 10 = .ok (.iconst 0, 1) := dk_3 (dk_at dksX9_rankBy_0 10 rfl rfl)
theorem dX9_rankBy_11 : decode cX9_rankBy 11 = .ok (.goto 20, 3) := dk_167 0 20 (dk_at dksX9_rankBy_0 11 rfl rfl)
theorem dX9_rankBy_14 : decode cX9_rankBy 14 = .ok (.iconst 1, 1) := dk_4 (dk_at dksX9_rankBy_0 14 rfl rfl)
theorem dX9_rankBy_15 : decode cX9_rankBy 15 = .ok (.iconst 3, 1) := dk_6 (dk_at dksX9_rankBy_0 15 rfl rfl)
theorem dX9_rankBy_16 : decode cX9_rankBy 16 = .ok (.iload_n 1, 1) := dk_27 (dk_at dksX9_rankBy_0 16 rfl rfl)
theorem dX9_rankBy_17 : decode cX9_rankBy 17 = .ok (.iload_n 0, 1) := dk_26 (dk_at dksX9_rankBy_0 17 rfl rfl)
theorem dX9_rankBy_18 : decode cX9_rankBy 18 = .ok (.iload_n 1, 1) := dk_27 (dk_at dksX9_rankBy_0 18 rfl rfl)
theorem dX9_rankBy_19 : decode cX9_rankBy 19 = .ok (.invokestatic 89, 3) := dk_184 0 89 (dk_at dksX9_rankBy_0 19 rfl rfl)
theorem dX9_rankBy_22 : decode cX9_rankBy 22 = .ok (.isub, 1) := dk_100 (dk_at dksX9_rankBy_0 22 rfl rfl)
theorem dX9_rankBy_23 : decode cX9_rankBy 23 = .ok (.imul, 1) := dk_104 (dk_at dksX9_rankBy_0 23 rfl rfl)
theorem dX9_rankBy_24 : decode cX9_rankBy 24 = .ok (.iadd, 1) := dk_96 (dk_at dksX9_rankBy_1 0 rfl rfl)
theorem dX9_rankBy_25 : decode cX9_rankBy 25 = .ok (.iload_n 2, 1) := dk_28 (dk_at dksX9_rankBy_1 1 rfl rfl)
theorem dX9_rankBy_26 : decode cX9_rankBy 26 = .ok (.iconst 1, 1) := dk_4 (dk_at dksX9_rankBy_1 2 rfl rfl)
theorem dX9_rankBy_27 : decode cX9_rankBy 27 = .ok (.isub, 1) := dk_100 (dk_at dksX9_rankBy_1 3 rfl rfl)
theorem dX9_rankBy_28 : decode cX9_rankBy 28 = .ok (.iconst 3, 1) := dk_6 (dk_at dksX9_rankBy_1 4 rfl rfl)
theorem dX9_rankBy_29 : decode cX9_rankBy 29 = .ok (.irem, 1) := dk_112 (dk_at dksX9_rankBy_1 5 rfl rfl)
theorem dX9_rankBy_30 : decode cX9_rankBy 30 = .ok (.iadd, 1) := dk_96 (dk_at dksX9_rankBy_1 6 rfl rfl)
theorem dX9_rankBy_31 : decode cX9_rankBy 31 = .ok (.istore_n 3, 1) := dk_62 (dk_at dksX9_rankBy_1 7 rfl rfl)
theorem dX9_rankBy_32 : decode cX9_rankBy 32 = .ok (.bipush 64, 2) := dk_16 64 (dk_at dksX9_rankBy_1 8 rfl rfl)
theorem dX9_rankBy_34 : decode cX9_rankBy 34 = .ok (.iload_n 3, 1) := dk_29 (dk_at dksX9_rankBy_1 10 rfl rfl)
theorem dX9_rankBy_35 : decode cX9_rankBy 35 = .ok (.imul, 1) := dk_104 (dk_at dksX9_rankBy_1 11 rfl rfl)
theorem dX9_rankBy_36 : decode cX9_rankBy 36 = .ok (.iload_n 0, 1) := dk_26 (dk_at dksX9_rankBy_1 12 rfl rfl)
theorem dX9_rankBy_37 : decode cX9_rankBy 37 = .ok (.iadd, 1) := dk_96 (dk_at dksX9_rankBy_1 13 rfl rfl)
theorem dX9_rankBy_38 : decode cX9_rankBy 38 = .ok (.ireturn, 1) := dk_172 (dk_at dksX9_rankBy_1 14 rfl rfl)
abbrev cX9_lengthOfCode : ByteArray := prog_11_method_45_code
def yX9_lengthOfCode : MethodName := ⟨RX9, "lengthOfCode", "()I"⟩
def dkwX9_lengthOfCode_3 : List UInt8 := [167, 0, 4, 4, 96, 61, 167, 255, 186, 27, 172]
abbrev dktX9_lengthOfCode_3 : List UInt8 := dkwX9_lengthOfCode_3 ++ []
def dkwX9_lengthOfCode_2 : List UInt8 := [167, 0, 4, 5, 5, 21, 4, 184, 0, 152, 104, 96, 4, 96, 96, 60, 28, 29, 158, 0, 7, 29]
abbrev dktX9_lengthOfCode_2 : List UInt8 := dkwX9_lengthOfCode_2 ++ dktX9_lengthOfCode_3
def dkwX9_lengthOfCode_1 : List UInt8 := [42, 180, 0, 22, 42, 180, 0, 31, 28, 46, 46, 184, 0, 106, 54, 4, 27, 29, 158, 0, 7, 4]
abbrev dktX9_lengthOfCode_1 : List UInt8 := dkwX9_lengthOfCode_1 ++ dktX9_lengthOfCode_2
def dkwX9_lengthOfCode_0 : List UInt8 := [3, 60, 3, 61, 28, 16, 64, 162, 0, 70, 42, 28, 182, 0, 149, 62, 29, 158, 0, 7, 29, 167, 0, 17]
abbrev dktX9_lengthOfCode_0 : List UInt8 := dkwX9_lengthOfCode_0 ++ dktX9_lengthOfCode_1
theorem dksX9_lengthOfCode_0 : cX9_lengthOfCode.data.toList.drop 0 = dktX9_lengthOfCode_0 := by decide +kernel
theorem dksX9_lengthOfCode_1 : cX9_lengthOfCode.data.toList.drop 24 = dktX9_lengthOfCode_1 := dk_seg dksX9_lengthOfCode_0 24 rfl rfl
theorem dksX9_lengthOfCode_2 : cX9_lengthOfCode.data.toList.drop 46 = dktX9_lengthOfCode_2 := dk_seg dksX9_lengthOfCode_1 22 rfl rfl
theorem dksX9_lengthOfCode_3 : cX9_lengthOfCode.data.toList.drop 68 = dktX9_lengthOfCode_3 := dk_seg dksX9_lengthOfCode_2 22 rfl rfl
theorem dX9_lengthOfCode_0 : decode cX9_lengthOfCode 0 = .ok (.iconst 0, 1) := dk_3 (dk_at dksX9_lengthOfCode_0 0 rfl rfl)
theorem dX9_lengthOfCode_1 : decode cX9_lengthOfCode 1 = .ok (.istore_n 1, 1) := dk_60 (dk_at dksX9_lengthOfCode_0 1 rfl rfl)
theorem dX9_lengthOfCode_2 : decode cX9_lengthOfCode 2 = .ok (.iconst 0, 1) := dk_3 (dk_at dksX9_lengthOfCode_0 2 rfl rfl)
theorem dX9_lengthOfCode_3 : decode cX9_lengthOfCode 3 = .ok (.istore_n 2, 1) := dk_61 (dk_at dksX9_lengthOfCode_0 3 rfl rfl)
theorem dX9_lengthOfCode_4 : decode cX9_lengthOfCode 4 = .ok (.iload_n 2, 1) := dk_28 (dk_at dksX9_lengthOfCode_0 4 rfl rfl)
theorem dX9_lengthOfCode_5 : decode cX9_lengthOfCode 5 = .ok (.bipush 64, 2) := dk_16 64 (dk_at dksX9_lengthOfCode_0 5 rfl rfl)
theorem dX9_lengthOfCode_7 : decode cX9_lengthOfCode 7 = .ok (.if_icmp .ge 70, 3) := dk_162 0 70 (dk_at dksX9_lengthOfCode_0 7 rfl rfl)
theorem dX9_lengthOfCode_10 : decode cX9_lengthOfCode 10 = .ok (.aload_n 0, 1) := dk_42 (dk_at dksX9_lengthOfCode_0 10 rfl rfl)
theorem dX9_lengthOfCode_11 : decode cX9_lengthOfCode 11 = .ok (.iload_n 2, 1) := dk_28 (dk_at dksX9_lengthOfCode_0 11 rfl rfl)
theorem dX9_lengthOfCode_12 : decode cX9_lengthOfCode 12 = .ok (.invokevirtual 149, 3) := dk_182 0 149 (dk_at dksX9_lengthOfCode_0 12 rfl rfl)
theorem dX9_lengthOfCode_15 : decode cX9_lengthOfCode 15 = .ok (.istore_n 3, 1) := dk_62 (dk_at dksX9_lengthOfCode_0 15 rfl rfl)
theorem dX9_lengthOfCode_16 : decode cX9_lengthOfCode 16 = .ok (.iload_n 3, 1) := dk_29 (dk_at dksX9_lengthOfCode_0 16 rfl rfl)
theorem dX9_lengthOfCode_17 : decode cX9_lengthOfCode 17 = .ok (.ifCond .le 7, 3) := dk_158 0 7 (dk_at dksX9_lengthOfCode_0 17 rfl rfl)
theorem dX9_lengthOfCode_20 : decode cX9_lengthOfCode 20 = .ok (.iload_n 3, 1) := dk_29 (dk_at dksX9_lengthOfCode_0 20 rfl rfl)
theorem dX9_lengthOfCode_21 : decode cX9_lengthOfCode 21 = .ok (.goto 17, 3) := dk_167 0 17 (dk_at dksX9_lengthOfCode_0 21 rfl rfl)
theorem dX9_lengthOfCode_24 : decode cX9_lengthOfCode 24 = .ok (.aload_n 0, 1) := dk_42 (dk_at dksX9_lengthOfCode_1 0 rfl rfl)
theorem dX9_lengthOfCode_25 : decode cX9_lengthOfCode 25 = .ok (.getfield 22, 3) := dk_180 0 22 (dk_at dksX9_lengthOfCode_1 1 rfl rfl)
theorem dX9_lengthOfCode_28 : decode cX9_lengthOfCode 28 = .ok (.aload_n 0, 1) := dk_42 (dk_at dksX9_lengthOfCode_1 4 rfl rfl)
theorem dX9_lengthOfCode_29 : decode cX9_lengthOfCode 29 = .ok (.getfield 31, 3) := dk_180 0 31 (dk_at dksX9_lengthOfCode_1 5 rfl rfl)
theorem dX9_lengthOfCode_32 : decode cX9_lengthOfCode 32 = .ok (.iload_n 2, 1) := dk_28 (dk_at dksX9_lengthOfCode_1 8 rfl rfl)
theorem dX9_lengthOfCode_33 : decode cX9_lengthOfCode 33 = .ok (.iaload, 1) := dk_46 (dk_at dksX9_lengthOfCode_1 9 rfl rfl)
theorem dX9_lengthOfCode_34 : decode cX9_lengthOfCode 34 = .ok (.iaload, 1) := dk_46 (dk_at dksX9_lengthOfCode_1 10 rfl rfl)
theorem dX9_lengthOfCode_35 : decode cX9_lengthOfCode 35 = .ok (.invokestatic 106, 3) := dk_184 0 106 (dk_at dksX9_lengthOfCode_1 11 rfl rfl)
theorem dX9_lengthOfCode_38 : decode cX9_lengthOfCode 38 = .ok (.istore 4, 2) := dk_54 4 (dk_at dksX9_lengthOfCode_1 14 rfl rfl)
theorem dX9_lengthOfCode_40 : decode cX9_lengthOfCode 40 = .ok (.iload_n 1, 1) := dk_27 (dk_at dksX9_lengthOfCode_1 16 rfl rfl)
theorem dX9_lengthOfCode_41 : decode cX9_lengthOfCode 41 = .ok (.iload_n 3, 1) := dk_29 (dk_at dksX9_lengthOfCode_1 17 rfl rfl)
theorem dX9_lengthOfCode_42 : decode cX9_lengthOfCode 42 = .ok (.ifCond .le 7, 3) := dk_158 0 7 (dk_at dksX9_lengthOfCode_1 18 rfl rfl)
theorem dX9_lengthOfCode_45 : decode cX9_lengthOfCode 45 = .ok (.iconst 1, 1) := dk_4 (dk_at dksX9_lengthOfCode_1 21 rfl rfl)
theorem dX9_lengthOfCode_46 : decode cX9_lengthOfCode 46 = .ok (.goto 4, 3) := dk_167 0 4 (dk_at dksX9_lengthOfCode_2 0 rfl rfl)
theorem dX9_lengthOfCode_49 : decode cX9_lengthOfCode 49 = .ok (.iconst 2, 1) := dk_5 (dk_at dksX9_lengthOfCode_2 3 rfl rfl)
theorem dX9_lengthOfCode_50 : decode cX9_lengthOfCode 50 = .ok (.iconst 2, 1) := dk_5 (dk_at dksX9_lengthOfCode_2 4 rfl rfl)
theorem dX9_lengthOfCode_51 : decode cX9_lengthOfCode 51 = .ok (.iload 4, 2) := dk_21 4 (dk_at dksX9_lengthOfCode_2 5 rfl rfl)
theorem dX9_lengthOfCode_53 : decode cX9_lengthOfCode 53 = .ok (.invokestatic 152, 3) := dk_184 0 152 (dk_at dksX9_lengthOfCode_2 7 rfl rfl)
theorem dX9_lengthOfCode_56 : decode cX9_lengthOfCode 56 = .ok (.imul, 1) := dk_104 (dk_at dksX9_lengthOfCode_2 10 rfl rfl)
theorem dX9_lengthOfCode_57 : decode cX9_lengthOfCode 57 = .ok (.iadd, 1) := dk_96 (dk_at dksX9_lengthOfCode_2 11 rfl rfl)
theorem dX9_lengthOfCode_58 : decode cX9_lengthOfCode 58 = .ok (.iconst 1, 1) := dk_4 (dk_at dksX9_lengthOfCode_2 12 rfl rfl)
theorem dX9_lengthOfCode_59 : decode cX9_lengthOfCode 59 = .ok (.iadd, 1) := dk_96 (dk_at dksX9_lengthOfCode_2 13 rfl rfl)
theorem dX9_lengthOfCode_60 : decode cX9_lengthOfCode 60 = .ok (.iadd, 1) := dk_96 (dk_at dksX9_lengthOfCode_2 14 rfl rfl)
theorem dX9_lengthOfCode_61 : decode cX9_lengthOfCode 61 = .ok (.istore_n 1, 1) := dk_60 (dk_at dksX9_lengthOfCode_2 15 rfl rfl)
theorem dX9_lengthOfCode_62 : decode cX9_lengthOfCode 62 = .ok (.iload_n 2, 1) := dk_28 (dk_at dksX9_lengthOfCode_2 16 rfl rfl)
theorem dX9_lengthOfCode_63 : decode cX9_lengthOfCode 63 = .ok (.iload_n 3, 1) := dk_29 (dk_at dksX9_lengthOfCode_2 17 rfl rfl)
theorem dX9_lengthOfCode_64 : decode cX9_lengthOfCode 64 = .ok (.ifCond .le 7, 3) := dk_158 0 7 (dk_at dksX9_lengthOfCode_2 18 rfl rfl)
theorem dX9_lengthOfCode_67 : decode cX9_lengthOfCode 67 = .ok (.iload_n 3, 1) := dk_29 (dk_at dksX9_lengthOfCode_2 21 rfl rfl)
theorem dX9_lengthOfCode_68 : decode cX9_lengthOfCode 68 = .ok (.goto 4, 3) := dk_167 0 4 (dk_at dksX9_lengthOfCode_3 0 rfl rfl)
theorem dX9_lengthOfCode_71 : decode cX9_lengthOfCode 71 = .ok (.iconst 1, 1) := dk_4 (dk_at dksX9_lengthOfCode_3 3 rfl rfl)
theorem dX9_lengthOfCode_72 : decode cX9_lengthOfCode 72 = .ok (.iadd, 1) := dk_96 (dk_at dksX9_lengthOfCode_3 4 rfl rfl)
theorem dX9_lengthOfCode_73 : decode cX9_lengthOfCode 73 = .ok (.istore_n 2, 1) := dk_61 (dk_at dksX9_lengthOfCode_3 5 rfl rfl)
theorem dX9_lengthOfCode_74 : decode cX9_lengthOfCode 74 = .ok (.goto (-70), 3) := dk_167 255 186 (dk_at dksX9_lengthOfCode_3 6 rfl rfl)
theorem dX9_lengthOfCode_77 : decode cX9_lengthOfCode 77 = .ok (.iload_n 1, 1) := dk_27 (dk_at dksX9_lengthOfCode_3 9 rfl rfl)
theorem dX9_lengthOfCode_78 : decode cX9_lengthOfCode 78 = .ok (.ireturn, 1) := dk_172 (dk_at dksX9_lengthOfCode_3 10 rfl rfl)
abbrev cX9_zerosFrom : ByteArray := prog_11_method_44_code
def yX9_zerosFrom : MethodName := ⟨RX9, "zerosFrom", "(I)I"⟩
def dkwX9_zerosFrom_1 : List UInt8 := [154, 0, 9, 132, 2, 1, 167, 255, 229, 28, 172]
abbrev dktX9_zerosFrom_1 : List UInt8 := dkwX9_zerosFrom_1 ++ []
def dkwX9_zerosFrom_0 : List UInt8 := [3, 61, 27, 28, 96, 16, 64, 162, 0, 25, 42, 180, 0, 22, 42, 180, 0, 31, 27, 28, 96, 46, 46]
abbrev dktX9_zerosFrom_0 : List UInt8 := dkwX9_zerosFrom_0 ++ dktX9_zerosFrom_1
theorem dksX9_zerosFrom_0 : cX9_zerosFrom.data.toList.drop 0 = dktX9_zerosFrom_0 := by decide +kernel
theorem dksX9_zerosFrom_1 : cX9_zerosFrom.data.toList.drop 23 = dktX9_zerosFrom_1 := dk_seg dksX9_zerosFrom_0 23 rfl rfl
theorem dX9_zerosFrom_0 : decode cX9_zerosFrom 0 = .ok (.iconst 0, 1) := dk_3 (dk_at dksX9_zerosFrom_0 0 rfl rfl)
theorem dX9_zerosFrom_1 : decode cX9_zerosFrom 1 = .ok (.istore_n 2, 1) := dk_61 (dk_at dksX9_zerosFrom_0 1 rfl rfl)
theorem dX9_zerosFrom_2 : decode cX9_zerosFrom 2 = .ok (.iload_n 1, 1) := dk_27 (dk_at dksX9_zerosFrom_0 2 rfl rfl)
theorem dX9_zerosFrom_3 : decode cX9_zerosFrom 3 = .ok (.iload_n 2, 1) := dk_28 (dk_at dksX9_zerosFrom_0 3 rfl rfl)
theorem dX9_zerosFrom_4 : decode cX9_zerosFrom 4 = .ok (.iadd, 1) := dk_96 (dk_at dksX9_zerosFrom_0 4 rfl rfl)
theorem dX9_zerosFrom_5 : decode cX9_zerosFrom 5 = .ok (.bipush 64, 2) := dk_16 64 (dk_at dksX9_zerosFrom_0 5 rfl rfl)
theorem dX9_zerosFrom_7 : decode cX9_zerosFrom 7 = .ok (.if_icmp .ge 25, 3) := dk_162 0 25 (dk_at dksX9_zerosFrom_0 7 rfl rfl)
theorem dX9_zerosFrom_10 : decode cX9_zerosFrom 10 = .ok (.aload_n 0, 1) := dk_42 (dk_at dksX9_zerosFrom_0 10 rfl rfl)
theorem dX9_zerosFrom_11 : decode cX9_zerosFrom 11 = .ok (.getfield 22, 3) := dk_180 0 22 (dk_at dksX9_zerosFrom_0 11 rfl rfl)
theorem dX9_zerosFrom_14 : decode cX9_zerosFrom 14 = .ok (.aload_n 0, 1) := dk_42 (dk_at dksX9_zerosFrom_0 14 rfl rfl)
theorem dX9_zerosFrom_15 : decode cX9_zerosFrom 15 = .ok (.getfield 31, 3) := dk_180 0 31 (dk_at dksX9_zerosFrom_0 15 rfl rfl)
theorem dX9_zerosFrom_18 : decode cX9_zerosFrom 18 = .ok (.iload_n 1, 1) := dk_27 (dk_at dksX9_zerosFrom_0 18 rfl rfl)
theorem dX9_zerosFrom_19 : decode cX9_zerosFrom 19 = .ok (.iload_n 2, 1) := dk_28 (dk_at dksX9_zerosFrom_0 19 rfl rfl)
theorem dX9_zerosFrom_20 : decode cX9_zerosFrom 20 = .ok (.iadd, 1) := dk_96 (dk_at dksX9_zerosFrom_0 20 rfl rfl)
theorem dX9_zerosFrom_21 : decode cX9_zerosFrom 21 = .ok (.iaload, 1) := dk_46 (dk_at dksX9_zerosFrom_0 21 rfl rfl)
theorem dX9_zerosFrom_22 : decode cX9_zerosFrom 22 = .ok (.iaload, 1) := dk_46 (dk_at dksX9_zerosFrom_0 22 rfl rfl)
theorem dX9_zerosFrom_23 : decode cX9_zerosFrom 23 = .ok (.ifCond .ne 9, 3) := dk_154 0 9 (dk_at dksX9_zerosFrom_1 0 rfl rfl)
theorem dX9_zerosFrom_26 : decode cX9_zerosFrom 26 = .ok (.iinc 2 1, 3) := dk_132 2 1 (dk_at dksX9_zerosFrom_1 3 rfl rfl)
theorem dX9_zerosFrom_29 : decode cX9_zerosFrom 29 = .ok (.goto (-27), 3) := dk_167 255 229 (dk_at dksX9_zerosFrom_1 6 rfl rfl)
theorem dX9_zerosFrom_32 : decode cX9_zerosFrom 32 = .ok (.iload_n 2, 1) := dk_28 (dk_at dksX9_zerosFrom_1 9 rfl rfl)
theorem dX9_zerosFrom_33 : decode cX9_zerosFrom 33 = .ok (.ireturn, 1) := dk_172 (dk_at dksX9_zerosFrom_1 10 rfl rfl)
abbrev cX9_bitsBehind : ByteArray := prog_11_method_43_code
def yX9_bitsBehind : MethodName := ⟨RX9, "bitsBehind", "(I)I"⟩
def dkwX9_bitsBehind_0 : List UInt8 := [3, 60, 26, 27, 4, 96, 122, 158, 0, 9, 132, 1, 1, 167, 255, 245, 27, 172]
abbrev dktX9_bitsBehind_0 : List UInt8 := dkwX9_bitsBehind_0 ++ []
theorem dksX9_bitsBehind_0 : cX9_bitsBehind.data.toList.drop 0 = dktX9_bitsBehind_0 := by decide +kernel
theorem dX9_bitsBehind_0 : decode cX9_bitsBehind 0 = .ok (.iconst 0, 1) := dk_3 (dk_at dksX9_bitsBehind_0 0 rfl rfl)
theorem dX9_bitsBehind_1 : decode cX9_bitsBehind 1 = .ok (.istore_n 1, 1) := dk_60 (dk_at dksX9_bitsBehind_0 1 rfl rfl)
theorem dX9_bitsBehind_2 : decode cX9_bitsBehind 2 = .ok (.iload_n 0, 1) := dk_26 (dk_at dksX9_bitsBehind_0 2 rfl rfl)
theorem dX9_bitsBehind_3 : decode cX9_bitsBehind 3 = .ok (.iload_n 1, 1) := dk_27 (dk_at dksX9_bitsBehind_0 3 rfl rfl)
theorem dX9_bitsBehind_4 : decode cX9_bitsBehind 4 = .ok (.iconst 1, 1) := dk_4 (dk_at dksX9_bitsBehind_0 4 rfl rfl)
theorem dX9_bitsBehind_5 : decode cX9_bitsBehind 5 = .ok (.iadd, 1) := dk_96 (dk_at dksX9_bitsBehind_0 5 rfl rfl)
theorem dX9_bitsBehind_6 : decode cX9_bitsBehind 6 = .ok (.ishr, 1) := dk_122 (dk_at dksX9_bitsBehind_0 6 rfl rfl)
theorem dX9_bitsBehind_7 : decode cX9_bitsBehind 7 = .ok (.ifCond .le 9, 3) := dk_158 0 9 (dk_at dksX9_bitsBehind_0 7 rfl rfl)
theorem dX9_bitsBehind_10 : decode cX9_bitsBehind 10 = .ok (.iinc 1 1, 3) := dk_132 1 1 (dk_at dksX9_bitsBehind_0 10 rfl rfl)
theorem dX9_bitsBehind_13 : decode cX9_bitsBehind 13 = .ok (.goto (-11), 3) := dk_167 255 245 (dk_at dksX9_bitsBehind_0 13 rfl rfl)
theorem dX9_bitsBehind_16 : decode cX9_bitsBehind 16 = .ok (.iload_n 1, 1) := dk_27 (dk_at dksX9_bitsBehind_0 16 rfl rfl)
theorem dX9_bitsBehind_17 : decode cX9_bitsBehind 17 = .ok (.ireturn, 1) := dk_172 (dk_at dksX9_bitsBehind_0 17 rfl rfl)
abbrev cX9_codeBit : ByteArray := prog_11_method_50_code
def yX9_codeBit : MethodName := ⟨RX9, "codeBit", "(I)I"⟩
def dkwX9_codeBit_1 : List UInt8 := [2, 160, 0, 11, 42, 4, 182, 0, 63, 167, 0, 4, 28, 172]
abbrev dktX9_codeBit_1 : List UInt8 := dkwX9_codeBit_1 ++ []
def dkwX9_codeBit_0 : List UInt8 := [42, 3, 181, 0, 52, 42, 182, 0, 161, 27, 156, 0, 7, 2, 167, 0, 8, 42, 27, 182, 0, 167, 61, 28]
abbrev dktX9_codeBit_0 : List UInt8 := dkwX9_codeBit_0 ++ dktX9_codeBit_1
theorem dksX9_codeBit_0 : cX9_codeBit.data.toList.drop 0 = dktX9_codeBit_0 := by decide +kernel
theorem dksX9_codeBit_1 : cX9_codeBit.data.toList.drop 24 = dktX9_codeBit_1 := dk_seg dksX9_codeBit_0 24 rfl rfl
theorem dX9_codeBit_0 : decode cX9_codeBit 0 = .ok (.aload_n 0, 1) := dk_42 (dk_at dksX9_codeBit_0 0 rfl rfl)
theorem dX9_codeBit_1 : decode cX9_codeBit 1 = .ok (.iconst 0, 1) := dk_3 (dk_at dksX9_codeBit_0 1 rfl rfl)
theorem dX9_codeBit_2 : decode cX9_codeBit 2 = .ok (.putfield 52, 3) := dk_181 0 52 (dk_at dksX9_codeBit_0 2 rfl rfl)
theorem dX9_codeBit_5 : decode cX9_codeBit 5 = .ok (.aload_n 0, 1) := dk_42 (dk_at dksX9_codeBit_0 5 rfl rfl)
theorem dX9_codeBit_6 : decode cX9_codeBit 6 = .ok (.invokevirtual 161, 3) := dk_182 0 161 (dk_at dksX9_codeBit_0 6 rfl rfl)
theorem dX9_codeBit_9 : decode cX9_codeBit 9 = .ok (.iload_n 1, 1) := dk_27 (dk_at dksX9_codeBit_0 9 rfl rfl)
theorem dX9_codeBit_10 : decode cX9_codeBit 10 = .ok (.ifCond .ge 7, 3) := dk_156 0 7 (dk_at dksX9_codeBit_0 10 rfl rfl)
theorem dX9_codeBit_13 : decode cX9_codeBit 13 = .ok (.iconst (-1), 1) := dk_2 (dk_at dksX9_codeBit_0 13 rfl rfl)
theorem dX9_codeBit_14 : decode cX9_codeBit 14 = .ok (.goto 8, 3) := dk_167 0 8 (dk_at dksX9_codeBit_0 14 rfl rfl)
theorem dX9_codeBit_17 : decode cX9_codeBit 17 = .ok (.aload_n 0, 1) := dk_42 (dk_at dksX9_codeBit_0 17 rfl rfl)
theorem dX9_codeBit_18 : decode cX9_codeBit 18 = .ok (.iload_n 1, 1) := dk_27 (dk_at dksX9_codeBit_0 18 rfl rfl)
theorem dX9_codeBit_19 : decode cX9_codeBit 19 = .ok (.invokevirtual 167, 3) := dk_182 0 167 (dk_at dksX9_codeBit_0 19 rfl rfl)
theorem dX9_codeBit_22 : decode cX9_codeBit 22 = .ok (.istore_n 2, 1) := dk_61 (dk_at dksX9_codeBit_0 22 rfl rfl)
theorem dX9_codeBit_23 : decode cX9_codeBit 23 = .ok (.iload_n 2, 1) := dk_28 (dk_at dksX9_codeBit_0 23 rfl rfl)
theorem dX9_codeBit_24 : decode cX9_codeBit 24 = .ok (.iconst (-1), 1) := dk_2 (dk_at dksX9_codeBit_1 0 rfl rfl)
theorem dX9_codeBit_25 : decode cX9_codeBit 25 = .ok (.if_icmp .ne 11, 3) := dk_160 0 11 (dk_at dksX9_codeBit_1 1 rfl rfl)
theorem dX9_codeBit_28 : decode cX9_codeBit 28 = .ok (.aload_n 0, 1) := dk_42 (dk_at dksX9_codeBit_1 4 rfl rfl)
theorem dX9_codeBit_29 : decode cX9_codeBit 29 = .ok (.iconst 1, 1) := dk_4 (dk_at dksX9_codeBit_1 5 rfl rfl)
theorem dX9_codeBit_30 : decode cX9_codeBit 30 = .ok (.invokevirtual 63, 3) := dk_182 0 63 (dk_at dksX9_codeBit_1 6 rfl rfl)
theorem dX9_codeBit_33 : decode cX9_codeBit 33 = .ok (.goto 4, 3) := dk_167 0 4 (dk_at dksX9_codeBit_1 9 rfl rfl)
theorem dX9_codeBit_36 : decode cX9_codeBit 36 = .ok (.iload_n 2, 1) := dk_28 (dk_at dksX9_codeBit_1 12 rfl rfl)
theorem dX9_codeBit_37 : decode cX9_codeBit 37 = .ok (.ireturn, 1) := dk_172 (dk_at dksX9_codeBit_1 13 rfl rfl)
abbrev cX9_bitAt : ByteArray := prog_11_method_47_code
def yX9_bitAt : MethodName := ⟨RX9, "bitAt", "(I)I"⟩
def dkwX9_bitAt_6 : List UInt8 := [21, 5, 167, 0, 4, 4, 96, 62, 167, 255, 115, 21, 4, 172]
abbrev dktX9_bitAt_6 : List UInt8 := dkwX9_bitAt_6 ++ []
def dkwX9_bitAt_5 : List UInt8 := [21, 6, 156, 0, 7, 4, 167, 0, 4, 3, 54, 4, 28, 21, 9, 100, 61, 29, 21, 5, 158, 0, 8]
abbrev dktX9_bitAt_5 : List UInt8 := dkwX9_bitAt_5 ++ dktX9_bitAt_6
def dkwX9_bitAt_4 : List UInt8 := [21, 7, 28, 21, 8, 100, 184, 0, 155, 167, 0, 24, 28, 154, 0, 10, 21, 8, 4, 100, 167, 0, 13]
abbrev dktX9_bitAt_4 : List UInt8 := dkwX9_bitAt_4 ++ dktX9_bitAt_5
def dkwX9_bitAt_3 : List UInt8 := [5, 21, 7, 184, 0, 152, 104, 96, 4, 96, 54, 9, 28, 21, 9, 162, 0, 44, 28, 21, 8, 161, 0, 15]
abbrev dktX9_bitAt_3 : List UInt8 := dkwX9_bitAt_3 ++ dktX9_bitAt_4
def dkwX9_bitAt_2 : List UInt8 := [167, 0, 8, 21, 6, 184, 0, 106, 54, 7, 21, 5, 158, 0, 7, 4, 167, 0, 4, 5, 54, 8, 21, 8]
abbrev dktX9_bitAt_2 : List UInt8 := dkwX9_bitAt_2 ++ dktX9_bitAt_3
def dkwX9_bitAt_1 : List UInt8 := [54, 5, 42, 180, 0, 22, 42, 180, 0, 31, 29, 46, 46, 54, 6, 21, 5, 158, 0, 8, 21, 5]
abbrev dktX9_bitAt_1 : List UInt8 := dkwX9_bitAt_1 ++ dktX9_bitAt_2
def dkwX9_bitAt_0 : List UInt8 := [27, 61, 3, 62, 2, 54, 4, 29, 16, 64, 162, 0, 141, 21, 4, 2, 160, 0, 135, 42, 29, 182, 0, 149]
abbrev dktX9_bitAt_0 : List UInt8 := dkwX9_bitAt_0 ++ dktX9_bitAt_1
theorem dksX9_bitAt_0 : cX9_bitAt.data.toList.drop 0 = dktX9_bitAt_0 := by decide +kernel
theorem dksX9_bitAt_1 : cX9_bitAt.data.toList.drop 24 = dktX9_bitAt_1 := dk_seg dksX9_bitAt_0 24 rfl rfl
theorem dksX9_bitAt_2 : cX9_bitAt.data.toList.drop 46 = dktX9_bitAt_2 := dk_seg dksX9_bitAt_1 22 rfl rfl
theorem dksX9_bitAt_3 : cX9_bitAt.data.toList.drop 70 = dktX9_bitAt_3 := dk_seg dksX9_bitAt_2 24 rfl rfl
theorem dksX9_bitAt_4 : cX9_bitAt.data.toList.drop 94 = dktX9_bitAt_4 := dk_seg dksX9_bitAt_3 24 rfl rfl
theorem dksX9_bitAt_5 : cX9_bitAt.data.toList.drop 117 = dktX9_bitAt_5 := dk_seg dksX9_bitAt_4 23 rfl rfl
theorem dksX9_bitAt_6 : cX9_bitAt.data.toList.drop 140 = dktX9_bitAt_6 := dk_seg dksX9_bitAt_5 23 rfl rfl
theorem dX9_bitAt_0 : decode cX9_bitAt 0 = .ok (.iload_n 1, 1) := dk_27 (dk_at dksX9_bitAt_0 0 rfl rfl)
theorem dX9_bitAt_1 : decode cX9_bitAt 1 = .ok (.istore_n 2, 1) := dk_61 (dk_at dksX9_bitAt_0 1 rfl rfl)
theorem dX9_bitAt_2 : decode cX9_bitAt 2 = .ok (.iconst 0, 1) := dk_3 (dk_at dksX9_bitAt_0 2 rfl rfl)
theorem dX9_bitAt_3 : decode cX9_bitAt 3 = .ok (.istore_n 3, 1) := dk_62 (dk_at dksX9_bitAt_0 3 rfl rfl)
theorem dX9_bitAt_4 : decode cX9_bitAt 4 = .ok (.iconst (-1), 1) := dk_2 (dk_at dksX9_bitAt_0 4 rfl rfl)
theorem dX9_bitAt_5 : decode cX9_bitAt 5 = .ok (.istore 4, 2) := dk_54 4 (dk_at dksX9_bitAt_0 5 rfl rfl)
theorem dX9_bitAt_7 : decode cX9_bitAt 7 = .ok (.iload_n 3, 1) := dk_29 (dk_at dksX9_bitAt_0 7 rfl rfl)
theorem dX9_bitAt_8 : decode cX9_bitAt 8 = .ok (.bipush 64, 2) := dk_16 64 (dk_at dksX9_bitAt_0 8 rfl rfl)
theorem dX9_bitAt_10 : decode cX9_bitAt 10 = .ok (.if_icmp .ge 141, 3) := dk_162 0 141 (dk_at dksX9_bitAt_0 10 rfl rfl)
theorem dX9_bitAt_13 : decode cX9_bitAt 13 = .ok (.iload 4, 2) := dk_21 4 (dk_at dksX9_bitAt_0 13 rfl rfl)
theorem dX9_bitAt_15 : decode cX9_bitAt 15 = .ok (.iconst (-1), 1) := dk_2 (dk_at dksX9_bitAt_0 15 rfl rfl)
theorem dX9_bitAt_16 : decode cX9_bitAt 16 = .ok (.if_icmp .ne 135, 3) := dk_160 0 135 (dk_at dksX9_bitAt_0 16 rfl rfl)
theorem dX9_bitAt_19 : decode cX9_bitAt 19 = .ok (.aload_n 0, 1) := dk_42 (dk_at dksX9_bitAt_0 19 rfl rfl)
theorem dX9_bitAt_20 : decode cX9_bitAt 20 = .ok (.iload_n 3, 1) := dk_29 (dk_at dksX9_bitAt_0 20 rfl rfl)
theorem dX9_bitAt_21 : decode cX9_bitAt 21 = .ok (.invokevirtual 149, 3) := dk_182 0 149 (dk_at dksX9_bitAt_0 21 rfl rfl)
theorem dX9_bitAt_24 : decode cX9_bitAt 24 = .ok (.istore 5, 2) := dk_54 5 (dk_at dksX9_bitAt_1 0 rfl rfl)
theorem dX9_bitAt_26 : decode cX9_bitAt 26 = .ok (.aload_n 0, 1) := dk_42 (dk_at dksX9_bitAt_1 2 rfl rfl)
theorem dX9_bitAt_27 : decode cX9_bitAt 27 = .ok (.getfield 22, 3) := dk_180 0 22 (dk_at dksX9_bitAt_1 3 rfl rfl)
theorem dX9_bitAt_30 : decode cX9_bitAt 30 = .ok (.aload_n 0, 1) := dk_42 (dk_at dksX9_bitAt_1 6 rfl rfl)
theorem dX9_bitAt_31 : decode cX9_bitAt 31 = .ok (.getfield 31, 3) := dk_180 0 31 (dk_at dksX9_bitAt_1 7 rfl rfl)
theorem dX9_bitAt_34 : decode cX9_bitAt 34 = .ok (.iload_n 3, 1) := dk_29 (dk_at dksX9_bitAt_1 10 rfl rfl)
theorem dX9_bitAt_35 : decode cX9_bitAt 35 = .ok (.iaload, 1) := dk_46 (dk_at dksX9_bitAt_1 11 rfl rfl)
theorem dX9_bitAt_36 : decode cX9_bitAt 36 = .ok (.iaload, 1) := dk_46 (dk_at dksX9_bitAt_1 12 rfl rfl)
theorem dX9_bitAt_37 : decode cX9_bitAt 37 = .ok (.istore 6, 2) := dk_54 6 (dk_at dksX9_bitAt_1 13 rfl rfl)
theorem dX9_bitAt_39 : decode cX9_bitAt 39 = .ok (.iload 5, 2) := dk_21 5 (dk_at dksX9_bitAt_1 15 rfl rfl)
theorem dX9_bitAt_41 : decode cX9_bitAt 41 = .ok (.ifCond .le 8, 3) := dk_158 0 8 (dk_at dksX9_bitAt_1 17 rfl rfl)
theorem dX9_bitAt_44 : decode cX9_bitAt 44 = .ok (.iload 5, 2) := dk_21 5 (dk_at dksX9_bitAt_1 20 rfl rfl)
theorem dX9_bitAt_46 : decode cX9_bitAt 46 = .ok (.goto 8, 3) := dk_167 0 8 (dk_at dksX9_bitAt_2 0 rfl rfl)
theorem dX9_bitAt_49 : decode cX9_bitAt 49 = .ok (.iload 6, 2) := dk_21 6 (dk_at dksX9_bitAt_2 3 rfl rfl)
theorem dX9_bitAt_51 : decode cX9_bitAt 51 = .ok (.invokestatic 106, 3) := dk_184 0 106 (dk_at dksX9_bitAt_2 5 rfl rfl)
theorem dX9_bitAt_54 : decode cX9_bitAt 54 = .ok (.istore 7, 2) := dk_54 7 (dk_at dksX9_bitAt_2 8 rfl rfl)
theorem dX9_bitAt_56 : decode cX9_bitAt 56 = .ok (.iload 5, 2) := dk_21 5 (dk_at dksX9_bitAt_2 10 rfl rfl)
theorem dX9_bitAt_58 : decode cX9_bitAt 58 = .ok (.ifCond .le 7, 3) := dk_158 0 7 (dk_at dksX9_bitAt_2 12 rfl rfl)
theorem dX9_bitAt_61 : decode cX9_bitAt 61 = .ok (.iconst 1, 1) := dk_4 (dk_at dksX9_bitAt_2 15 rfl rfl)
theorem dX9_bitAt_62 : decode cX9_bitAt 62 = .ok (.goto 4, 3) := dk_167 0 4 (dk_at dksX9_bitAt_2 16 rfl rfl)
theorem dX9_bitAt_65 : decode cX9_bitAt 65 = .ok (.iconst 2, 1) := dk_5 (dk_at dksX9_bitAt_2 19 rfl rfl)
theorem dX9_bitAt_66 : decode cX9_bitAt 66 = .ok (.istore 8, 2) := dk_54 8 (dk_at dksX9_bitAt_2 20 rfl rfl)
theorem dX9_bitAt_68 : decode cX9_bitAt 68 = .ok (.iload 8, 2) := dk_21 8 (dk_at dksX9_bitAt_2 22 rfl rfl)
theorem dX9_bitAt_70 : decode cX9_bitAt 70 = .ok (.iconst 2, 1) := dk_5 (dk_at dksX9_bitAt_3 0 rfl rfl)
theorem dX9_bitAt_71 : decode cX9_bitAt 71 = .ok (.iload 7, 2) := dk_21 7 (dk_at dksX9_bitAt_3 1 rfl rfl)
theorem dX9_bitAt_73 : decode cX9_bitAt 73 = .ok (.invokestatic 152, 3) := dk_184 0 152 (dk_at dksX9_bitAt_3 3 rfl rfl)
theorem dX9_bitAt_76 : decode cX9_bitAt 76 = .ok (.imul, 1) := dk_104 (dk_at dksX9_bitAt_3 6 rfl rfl)
theorem dX9_bitAt_77 : decode cX9_bitAt 77 = .ok (.iadd, 1) := dk_96 (dk_at dksX9_bitAt_3 7 rfl rfl)
theorem dX9_bitAt_78 : decode cX9_bitAt 78 = .ok (.iconst 1, 1) := dk_4 (dk_at dksX9_bitAt_3 8 rfl rfl)
theorem dX9_bitAt_79 : decode cX9_bitAt 79 = .ok (.iadd, 1) := dk_96 (dk_at dksX9_bitAt_3 9 rfl rfl)
theorem dX9_bitAt_80 : decode cX9_bitAt 80 = .ok (.istore 9, 2) := dk_54 9 (dk_at dksX9_bitAt_3 10 rfl rfl)
theorem dX9_bitAt_82 : decode cX9_bitAt 82 = .ok (.iload_n 2, 1) := dk_28 (dk_at dksX9_bitAt_3 12 rfl rfl)
theorem dX9_bitAt_83 : decode cX9_bitAt 83 = .ok (.iload 9, 2) := dk_21 9 (dk_at dksX9_bitAt_3 13 rfl rfl)
theorem dX9_bitAt_85 : decode cX9_bitAt 85 = .ok (.if_icmp .ge 44, 3) := dk_162 0 44 (dk_at dksX9_bitAt_3 15 rfl rfl)
theorem dX9_bitAt_88 : decode cX9_bitAt 88 = .ok (.iload_n 2, 1) := dk_28 (dk_at dksX9_bitAt_3 18 rfl rfl)
theorem dX9_bitAt_89 : decode cX9_bitAt 89 = .ok (.iload 8, 2) := dk_21 8 (dk_at dksX9_bitAt_3 19 rfl rfl)
theorem dX9_bitAt_91 : decode cX9_bitAt 91 = .ok (.if_icmp .lt 15, 3) := dk_161 0 15 (dk_at dksX9_bitAt_3 21 rfl rfl)
theorem dX9_bitAt_94 : decode cX9_bitAt 94 = .ok (.iload 7, 2) := dk_21 7 (dk_at dksX9_bitAt_4 0 rfl rfl)
theorem dX9_bitAt_96 : decode cX9_bitAt 96 = .ok (.iload_n 2, 1) := dk_28 (dk_at dksX9_bitAt_4 2 rfl rfl)
theorem dX9_bitAt_97 : decode cX9_bitAt 97 = .ok (.iload 8, 2) := dk_21 8 (dk_at dksX9_bitAt_4 3 rfl rfl)
theorem dX9_bitAt_99 : decode cX9_bitAt 99 = .ok (.isub, 1) := dk_100 (dk_at dksX9_bitAt_4 5 rfl rfl)
theorem dX9_bitAt_100 : decode cX9_bitAt 100 = .ok (.invokestatic 155, 3) := dk_184 0 155 (dk_at dksX9_bitAt_4 6 rfl rfl)
theorem dX9_bitAt_103 : decode cX9_bitAt 103 = .ok (.goto 24, 3) := dk_167 0 24 (dk_at dksX9_bitAt_4 9 rfl rfl)
theorem dX9_bitAt_106 : decode cX9_bitAt 106 = .ok (.iload_n 2, 1) := dk_28 (dk_at dksX9_bitAt_4 12 rfl rfl)
theorem dX9_bitAt_107 : decode cX9_bitAt 107 = .ok (.ifCond .ne 10, 3) := dk_154 0 10 (dk_at dksX9_bitAt_4 13 rfl rfl)
theorem dX9_bitAt_110 : decode cX9_bitAt 110 = .ok (.iload 8, 2) := dk_21 8 (dk_at dksX9_bitAt_4 16 rfl rfl)
theorem dX9_bitAt_112 : decode cX9_bitAt 112 = .ok (.iconst 1, 1) := dk_4 (dk_at dksX9_bitAt_4 18 rfl rfl)
theorem dX9_bitAt_113 : decode cX9_bitAt 113 = .ok (.isub, 1) := dk_100 (dk_at dksX9_bitAt_4 19 rfl rfl)
theorem dX9_bitAt_114 : decode cX9_bitAt 114 = .ok (.goto 13, 3) := dk_167 0 13 (dk_at dksX9_bitAt_4 20 rfl rfl)
theorem dX9_bitAt_117 : decode cX9_bitAt 117 = .ok (.iload 6, 2) := dk_21 6 (dk_at dksX9_bitAt_5 0 rfl rfl)
theorem dX9_bitAt_119 : decode cX9_bitAt 119 = .ok (.ifCond .ge 7, 3) := dk_156 0 7 (dk_at dksX9_bitAt_5 2 rfl rfl)
theorem dX9_bitAt_122 : decode cX9_bitAt 122 = .ok (.iconst 1, 1) := dk_4 (dk_at dksX9_bitAt_5 5 rfl rfl)
theorem dX9_bitAt_123 : decode cX9_bitAt 123 = .ok (.goto 4, 3) := dk_167 0 4 (dk_at dksX9_bitAt_5 6 rfl rfl)
theorem dX9_bitAt_126 : decode cX9_bitAt 126 = .ok (.iconst 0, 1) := dk_3 (dk_at dksX9_bitAt_5 9 rfl rfl)
theorem dX9_bitAt_127 : decode cX9_bitAt 127 = .ok (.istore 4, 2) := dk_54 4 (dk_at dksX9_bitAt_5 10 rfl rfl)
theorem dX9_bitAt_129 : decode cX9_bitAt 129 = .ok (.iload_n 2, 1) := dk_28 (dk_at dksX9_bitAt_5 12 rfl rfl)
theorem dX9_bitAt_130 : decode cX9_bitAt 130 = .ok (.iload 9, 2) := dk_21 9 (dk_at dksX9_bitAt_5 13 rfl rfl)
theorem dX9_bitAt_132 : decode cX9_bitAt 132 = .ok (.isub, 1) := dk_100 (dk_at dksX9_bitAt_5 15 rfl rfl)
theorem dX9_bitAt_133 : decode cX9_bitAt 133 = .ok (.istore_n 2, 1) := dk_61 (dk_at dksX9_bitAt_5 16 rfl rfl)
theorem dX9_bitAt_134 : decode cX9_bitAt 134 = .ok (.iload_n 3, 1) := dk_29 (dk_at dksX9_bitAt_5 17 rfl rfl)
theorem dX9_bitAt_135 : decode cX9_bitAt 135 = .ok (.iload 5, 2) := dk_21 5 (dk_at dksX9_bitAt_5 18 rfl rfl)
theorem dX9_bitAt_137 : decode cX9_bitAt 137 = .ok (.ifCond .le 8, 3) := dk_158 0 8 (dk_at dksX9_bitAt_5 20 rfl rfl)
theorem dX9_bitAt_140 : decode cX9_bitAt 140 = .ok (.iload 5, 2) := dk_21 5 (dk_at dksX9_bitAt_6 0 rfl rfl)
theorem dX9_bitAt_142 : decode cX9_bitAt 142 = .ok (.goto 4, 3) := dk_167 0 4 (dk_at dksX9_bitAt_6 2 rfl rfl)
theorem dX9_bitAt_145 : decode cX9_bitAt 145 = .ok (.iconst 1, 1) := dk_4 (dk_at dksX9_bitAt_6 5 rfl rfl)
theorem dX9_bitAt_146 : decode cX9_bitAt 146 = .ok (.iadd, 1) := dk_96 (dk_at dksX9_bitAt_6 6 rfl rfl)
theorem dX9_bitAt_147 : decode cX9_bitAt 147 = .ok (.istore_n 3, 1) := dk_62 (dk_at dksX9_bitAt_6 7 rfl rfl)
theorem dX9_bitAt_148 : decode cX9_bitAt 148 = .ok (.goto (-141), 3) := dk_167 255 115 (dk_at dksX9_bitAt_6 8 rfl rfl)
theorem dX9_bitAt_151 : decode cX9_bitAt 151 = .ok (.iload 4, 2) := dk_21 4 (dk_at dksX9_bitAt_6 11 rfl rfl)
theorem dX9_bitAt_153 : decode cX9_bitAt 153 = .ok (.ireturn, 1) := dk_172 (dk_at dksX9_bitAt_6 13 rfl rfl)
abbrev cX9_bitOf : ByteArray := prog_11_method_46_code
def yX9_bitOf : MethodName := ⟨RX9, "bitOf", "(II)I"⟩
def dkwX9_bitOf_0 : List UInt8 := [26, 184, 0, 152, 61, 27, 28, 162, 0, 7, 3, 167, 0, 12, 26, 5, 28, 104, 27, 100, 122, 4, 126, 172]
abbrev dktX9_bitOf_0 : List UInt8 := dkwX9_bitOf_0 ++ []
theorem dksX9_bitOf_0 : cX9_bitOf.data.toList.drop 0 = dktX9_bitOf_0 := by decide +kernel
theorem dX9_bitOf_0 : decode cX9_bitOf 0 = .ok (.iload_n 0, 1) := dk_26 (dk_at dksX9_bitOf_0 0 rfl rfl)
theorem dX9_bitOf_1 : decode cX9_bitOf 1 = .ok (.invokestatic 152, 3) := dk_184 0 152 (dk_at dksX9_bitOf_0 1 rfl rfl)
theorem dX9_bitOf_4 : decode cX9_bitOf 4 = .ok (.istore_n 2, 1) := dk_61 (dk_at dksX9_bitOf_0 4 rfl rfl)
theorem dX9_bitOf_5 : decode cX9_bitOf 5 = .ok (.iload_n 1, 1) := dk_27 (dk_at dksX9_bitOf_0 5 rfl rfl)
theorem dX9_bitOf_6 : decode cX9_bitOf 6 = .ok (.iload_n 2, 1) := dk_28 (dk_at dksX9_bitOf_0 6 rfl rfl)
theorem dX9_bitOf_7 : decode cX9_bitOf 7 = .ok (.if_icmp .ge 7, 3) := dk_162 0 7 (dk_at dksX9_bitOf_0 7 rfl rfl)
theorem dX9_bitOf_10 : decode cX9_bitOf 10 = .ok (.iconst 0, 1) := dk_3 (dk_at dksX9_bitOf_0 10 rfl rfl)
theorem dX9_bitOf_11 : decode cX9_bitOf 11 = .ok (.goto 12, 3) := dk_167 0 12 (dk_at dksX9_bitOf_0 11 rfl rfl)
theorem dX9_bitOf_14 : decode cX9_bitOf 14 = .ok (.iload_n 0, 1) := dk_26 (dk_at dksX9_bitOf_0 14 rfl rfl)
theorem dX9_bitOf_15 : decode cX9_bitOf 15 = .ok (.iconst 2, 1) := dk_5 (dk_at dksX9_bitOf_0 15 rfl rfl)
theorem dX9_bitOf_16 : decode cX9_bitOf 16 = .ok (.iload_n 2, 1) := dk_28 (dk_at dksX9_bitOf_0 16 rfl rfl)
theorem dX9_bitOf_17 : decode cX9_bitOf 17 = .ok (.imul, 1) := dk_104 (dk_at dksX9_bitOf_0 17 rfl rfl)
theorem dX9_bitOf_18 : decode cX9_bitOf 18 = .ok (.iload_n 1, 1) := dk_27 (dk_at dksX9_bitOf_0 18 rfl rfl)
theorem dX9_bitOf_19 : decode cX9_bitOf 19 = .ok (.isub, 1) := dk_100 (dk_at dksX9_bitOf_0 19 rfl rfl)
theorem dX9_bitOf_20 : decode cX9_bitOf 20 = .ok (.ishr, 1) := dk_122 (dk_at dksX9_bitOf_0 20 rfl rfl)
theorem dX9_bitOf_21 : decode cX9_bitOf 21 = .ok (.iconst 1, 1) := dk_4 (dk_at dksX9_bitOf_0 21 rfl rfl)
theorem dX9_bitOf_22 : decode cX9_bitOf 22 = .ok (.iand, 1) := dk_126 (dk_at dksX9_bitOf_0 22 rfl rfl)
theorem dX9_bitOf_23 : decode cX9_bitOf 23 = .ok (.ireturn, 1) := dk_172 (dk_at dksX9_bitOf_0 23 rfl rfl)
abbrev cX9_partByCode : ByteArray := prog_11_method_51_code
def yX9_partByCode : MethodName := ⟨RX9, "partByCode", "(I)I"⟩
def dkwX9_partByCode_1 : List UInt8 := [180, 0, 31, 27, 46, 46, 167, 0, 8, 42, 4, 182, 0, 63, 172]
abbrev dktX9_partByCode_1 : List UInt8 := dkwX9_partByCode_1 ++ []
def dkwX9_partByCode_0 : List UInt8 := [42, 3, 181, 0, 52, 42, 182, 0, 161, 27, 3, 16, 63, 184, 0, 56, 153, 0, 17, 42, 180, 0, 22, 42]
abbrev dktX9_partByCode_0 : List UInt8 := dkwX9_partByCode_0 ++ dktX9_partByCode_1
theorem dksX9_partByCode_0 : cX9_partByCode.data.toList.drop 0 = dktX9_partByCode_0 := by decide +kernel
theorem dksX9_partByCode_1 : cX9_partByCode.data.toList.drop 24 = dktX9_partByCode_1 := dk_seg dksX9_partByCode_0 24 rfl rfl
theorem dX9_partByCode_0 : decode cX9_partByCode 0 = .ok (.aload_n 0, 1) := dk_42 (dk_at dksX9_partByCode_0 0 rfl rfl)
theorem dX9_partByCode_1 : decode cX9_partByCode 1 = .ok (.iconst 0, 1) := dk_3 (dk_at dksX9_partByCode_0 1 rfl rfl)
theorem dX9_partByCode_2 : decode cX9_partByCode 2 = .ok (.putfield 52, 3) := dk_181 0 52 (dk_at dksX9_partByCode_0 2 rfl rfl)
theorem dX9_partByCode_5 : decode cX9_partByCode 5 = .ok (.aload_n 0, 1) := dk_42 (dk_at dksX9_partByCode_0 5 rfl rfl)
theorem dX9_partByCode_6 : decode cX9_partByCode 6 = .ok (.invokevirtual 161, 3) := dk_182 0 161 (dk_at dksX9_partByCode_0 6 rfl rfl)
theorem dX9_partByCode_9 : decode cX9_partByCode 9 = .ok (.iload_n 1, 1) := dk_27 (dk_at dksX9_partByCode_0 9 rfl rfl)
theorem dX9_partByCode_10 : decode cX9_partByCode 10 = .ok (.iconst 0, 1) := dk_3 (dk_at dksX9_partByCode_0 10 rfl rfl)
theorem dX9_partByCode_11 : decode cX9_partByCode 11 = .ok (.bipush 63, 2) := dk_16 63 (dk_at dksX9_partByCode_0 11 rfl rfl)
theorem dX9_partByCode_13 : decode cX9_partByCode 13 = .ok (.invokestatic 56, 3) := dk_184 0 56 (dk_at dksX9_partByCode_0 13 rfl rfl)
theorem dX9_partByCode_16 : decode cX9_partByCode 16 = .ok (.ifCond .eq 17, 3) := dk_153 0 17 (dk_at dksX9_partByCode_0 16 rfl rfl)
theorem dX9_partByCode_19 : decode cX9_partByCode 19 = .ok (.aload_n 0, 1) := dk_42 (dk_at dksX9_partByCode_0 19 rfl rfl)
theorem dX9_partByCode_20 : decode cX9_partByCode 20 = .ok (.getfield 22, 3) := dk_180 0 22 (dk_at dksX9_partByCode_0 20 rfl rfl)
theorem dX9_partByCode_23 : decode cX9_partByCode 23 = .ok (.aload_n 0, 1) := dk_42 (dk_at dksX9_partByCode_0 23 rfl rfl)
theorem dX9_partByCode_24 : decode cX9_partByCode 24 = .ok (.getfield 31, 3) := dk_180 0 31 (dk_at dksX9_partByCode_1 0 rfl rfl)
theorem dX9_partByCode_27 : decode cX9_partByCode 27 = .ok (.iload_n 1, 1) := dk_27 (dk_at dksX9_partByCode_1 3 rfl rfl)
theorem dX9_partByCode_28 : decode cX9_partByCode 28 = .ok (.iaload, 1) := dk_46 (dk_at dksX9_partByCode_1 4 rfl rfl)
theorem dX9_partByCode_29 : decode cX9_partByCode 29 = .ok (.iaload, 1) := dk_46 (dk_at dksX9_partByCode_1 5 rfl rfl)
theorem dX9_partByCode_30 : decode cX9_partByCode 30 = .ok (.goto 8, 3) := dk_167 0 8 (dk_at dksX9_partByCode_1 6 rfl rfl)
theorem dX9_partByCode_33 : decode cX9_partByCode 33 = .ok (.aload_n 0, 1) := dk_42 (dk_at dksX9_partByCode_1 9 rfl rfl)
theorem dX9_partByCode_34 : decode cX9_partByCode 34 = .ok (.iconst 1, 1) := dk_4 (dk_at dksX9_partByCode_1 10 rfl rfl)
theorem dX9_partByCode_35 : decode cX9_partByCode 35 = .ok (.invokevirtual 63, 3) := dk_182 0 63 (dk_at dksX9_partByCode_1 11 rfl rfl)
theorem dX9_partByCode_38 : decode cX9_partByCode 38 = .ok (.ireturn, 1) := dk_172 (dk_at dksX9_partByCode_1 14 rfl rfl)
abbrev cX9_zeroRuns : ByteArray := prog_11_method_53_code
def yX9_zeroRuns : MethodName := ⟨RX9, "zeroRuns", "()I"⟩
def dkwX9_zeroRuns_0 : List UInt8 := [42, 3, 181, 0, 52, 42, 182, 0, 170, 172]
abbrev dktX9_zeroRuns_0 : List UInt8 := dkwX9_zeroRuns_0 ++ []
theorem dksX9_zeroRuns_0 : cX9_zeroRuns.data.toList.drop 0 = dktX9_zeroRuns_0 := by decide +kernel
theorem dX9_zeroRuns_0 : decode cX9_zeroRuns 0 = .ok (.aload_n 0, 1) := dk_42 (dk_at dksX9_zeroRuns_0 0 rfl rfl)
theorem dX9_zeroRuns_1 : decode cX9_zeroRuns 1 = .ok (.iconst 0, 1) := dk_3 (dk_at dksX9_zeroRuns_0 1 rfl rfl)
theorem dX9_zeroRuns_2 : decode cX9_zeroRuns 2 = .ok (.putfield 52, 3) := dk_181 0 52 (dk_at dksX9_zeroRuns_0 2 rfl rfl)
theorem dX9_zeroRuns_5 : decode cX9_zeroRuns 5 = .ok (.aload_n 0, 1) := dk_42 (dk_at dksX9_zeroRuns_0 5 rfl rfl)
theorem dX9_zeroRuns_6 : decode cX9_zeroRuns 6 = .ok (.invokevirtual 170, 3) := dk_182 0 170 (dk_at dksX9_zeroRuns_0 6 rfl rfl)
theorem dX9_zeroRuns_9 : decode cX9_zeroRuns 9 = .ok (.ireturn, 1) := dk_172 (dk_at dksX9_zeroRuns_0 9 rfl rfl)
abbrev cX9_runs : ByteArray := prog_11_method_52_code
def yX9_runs : MethodName := ⟨RX9, "runs", "()I"⟩
def dkwX9_runs_2 : List UInt8 := [153, 0, 7, 4, 167, 0, 4, 3, 96, 60, 132, 2, 1, 167, 255, 205, 27, 172]
abbrev dktX9_runs_2 : List UInt8 := dkwX9_runs_2 ++ []
def dkwX9_runs_1 : List UInt8 := [46, 46, 154, 0, 27, 28, 153, 0, 19, 42, 180, 0, 22, 42, 180, 0, 31, 28, 4, 100, 46, 46]
abbrev dktX9_runs_1 : List UInt8 := dkwX9_runs_1 ++ dktX9_runs_2
def dkwX9_runs_0 : List UInt8 := [42, 182, 0, 161, 3, 60, 3, 61, 28, 16, 64, 162, 0, 51, 27, 42, 180, 0, 22, 42, 180, 0, 31, 28]
abbrev dktX9_runs_0 : List UInt8 := dkwX9_runs_0 ++ dktX9_runs_1
theorem dksX9_runs_0 : cX9_runs.data.toList.drop 0 = dktX9_runs_0 := by decide +kernel
theorem dksX9_runs_1 : cX9_runs.data.toList.drop 24 = dktX9_runs_1 := dk_seg dksX9_runs_0 24 rfl rfl
theorem dksX9_runs_2 : cX9_runs.data.toList.drop 46 = dktX9_runs_2 := dk_seg dksX9_runs_1 22 rfl rfl
theorem dX9_runs_0 : decode cX9_runs 0 = .ok (.aload_n 0, 1) := dk_42 (dk_at dksX9_runs_0 0 rfl rfl)
theorem dX9_runs_1 : decode cX9_runs 1 = .ok (.invokevirtual 161, 3) := dk_182 0 161 (dk_at dksX9_runs_0 1 rfl rfl)
theorem dX9_runs_4 : decode cX9_runs 4 = .ok (.iconst 0, 1) := dk_3 (dk_at dksX9_runs_0 4 rfl rfl)
theorem dX9_runs_5 : decode cX9_runs 5 = .ok (.istore_n 1, 1) := dk_60 (dk_at dksX9_runs_0 5 rfl rfl)
theorem dX9_runs_6 : decode cX9_runs 6 = .ok (.iconst 0, 1) := dk_3 (dk_at dksX9_runs_0 6 rfl rfl)
theorem dX9_runs_7 : decode cX9_runs 7 = .ok (.istore_n 2, 1) := dk_61 (dk_at dksX9_runs_0 7 rfl rfl)
theorem dX9_runs_8 : decode cX9_runs 8 = .ok (.iload_n 2, 1) := dk_28 (dk_at dksX9_runs_0 8 rfl rfl)
theorem dX9_runs_9 : decode cX9_runs 9 = .ok (.bipush 64, 2) := dk_16 64 (dk_at dksX9_runs_0 9 rfl rfl)
theorem dX9_runs_11 : decode cX9_runs 11 = .ok (.if_icmp .ge 51, 3) := dk_162 0 51 (dk_at dksX9_runs_0 11 rfl rfl)
theorem dX9_runs_14 : decode cX9_runs 14 = .ok (.iload_n 1, 1) := dk_27 (dk_at dksX9_runs_0 14 rfl rfl)
theorem dX9_runs_15 : decode cX9_runs 15 = .ok (.aload_n 0, 1) := dk_42 (dk_at dksX9_runs_0 15 rfl rfl)
theorem dX9_runs_16 : decode cX9_runs 16 = .ok (.getfield 22, 3) := dk_180 0 22 (dk_at dksX9_runs_0 16 rfl rfl)
theorem dX9_runs_19 : decode cX9_runs 19 = .ok (.aload_n 0, 1) := dk_42 (dk_at dksX9_runs_0 19 rfl rfl)
theorem dX9_runs_20 : decode cX9_runs 20 = .ok (.getfield 31, 3) := dk_180 0 31 (dk_at dksX9_runs_0 20 rfl rfl)
theorem dX9_runs_23 : decode cX9_runs 23 = .ok (.iload_n 2, 1) := dk_28 (dk_at dksX9_runs_0 23 rfl rfl)
theorem dX9_runs_24 : decode cX9_runs 24 = .ok (.iaload, 1) := dk_46 (dk_at dksX9_runs_1 0 rfl rfl)
theorem dX9_runs_25 : decode cX9_runs 25 = .ok (.iaload, 1) := dk_46 (dk_at dksX9_runs_1 1 rfl rfl)
theorem dX9_runs_26 : decode cX9_runs 26 = .ok (.ifCond .ne 27, 3) := dk_154 0 27 (dk_at dksX9_runs_1 2 rfl rfl)
theorem dX9_runs_29 : decode cX9_runs 29 = .ok (.iload_n 2, 1) := dk_28 (dk_at dksX9_runs_1 5 rfl rfl)
theorem dX9_runs_30 : decode cX9_runs 30 = .ok (.ifCond .eq 19, 3) := dk_153 0 19 (dk_at dksX9_runs_1 6 rfl rfl)
theorem dX9_runs_33 : decode cX9_runs 33 = .ok (.aload_n 0, 1) := dk_42 (dk_at dksX9_runs_1 9 rfl rfl)
theorem dX9_runs_34 : decode cX9_runs 34 = .ok (.getfield 22, 3) := dk_180 0 22 (dk_at dksX9_runs_1 10 rfl rfl)
theorem dX9_runs_37 : decode cX9_runs 37 = .ok (.aload_n 0, 1) := dk_42 (dk_at dksX9_runs_1 13 rfl rfl)
theorem dX9_runs_38 : decode cX9_runs 38 = .ok (.getfield 31, 3) := dk_180 0 31 (dk_at dksX9_runs_1 14 rfl rfl)
theorem dX9_runs_41 : decode cX9_runs 41 = .ok (.iload_n 2, 1) := dk_28 (dk_at dksX9_runs_1 17 rfl rfl)
theorem dX9_runs_42 : decode cX9_runs 42 = .ok (.iconst 1, 1) := dk_4 (dk_at dksX9_runs_1 18 rfl rfl)
theorem dX9_runs_43 : decode cX9_runs 43 = .ok (.isub, 1) := dk_100 (dk_at dksX9_runs_1 19 rfl rfl)
theorem dX9_runs_44 : decode cX9_runs 44 = .ok (.iaload, 1) := dk_46 (dk_at dksX9_runs_1 20 rfl rfl)
theorem dX9_runs_45 : decode cX9_runs 45 = .ok (.iaload, 1) := dk_46 (dk_at dksX9_runs_1 21 rfl rfl)
theorem dX9_runs_46 : decode cX9_runs 46 = .ok (.ifCond .eq 7, 3) := dk_153 0 7 (dk_at dksX9_runs_2 0 rfl rfl)
theorem dX9_runs_49 : decode cX9_runs 49 = .ok (.iconst 1, 1) := dk_4 (dk_at dksX9_runs_2 3 rfl rfl)
theorem dX9_runs_50 : decode cX9_runs 50 = .ok (.goto 4, 3) := dk_167 0 4 (dk_at dksX9_runs_2 4 rfl rfl)
theorem dX9_runs_53 : decode cX9_runs 53 = .ok (.iconst 0, 1) := dk_3 (dk_at dksX9_runs_2 7 rfl rfl)
theorem dX9_runs_54 : decode cX9_runs 54 = .ok (.iadd, 1) := dk_96 (dk_at dksX9_runs_2 8 rfl rfl)
theorem dX9_runs_55 : decode cX9_runs 55 = .ok (.istore_n 1, 1) := dk_60 (dk_at dksX9_runs_2 9 rfl rfl)
theorem dX9_runs_56 : decode cX9_runs 56 = .ok (.iinc 2 1, 3) := dk_132 2 1 (dk_at dksX9_runs_2 10 rfl rfl)
theorem dX9_runs_59 : decode cX9_runs 59 = .ok (.goto (-51), 3) := dk_167 255 205 (dk_at dksX9_runs_2 13 rfl rfl)
theorem dX9_runs_62 : decode cX9_runs 62 = .ok (.iload_n 1, 1) := dk_27 (dk_at dksX9_runs_2 16 rfl rfl)
theorem dX9_runs_63 : decode cX9_runs 63 = .ok (.ireturn, 1) := dk_172 (dk_at dksX9_runs_2 17 rfl rfl)
abbrev cX9_codeLengthWith : ByteArray := prog_11_method_56_code
def yX9_codeLengthWith : MethodName := ⟨RX9, "codeLengthWith", "(I)I"⟩
def dkwX9_codeLengthWith_1 : List UInt8 := [182, 0, 63, 172]
abbrev dktX9_codeLengthWith_1 : List UInt8 := dkwX9_codeLengthWith_1 ++ []
def dkwX9_codeLengthWith_0 : List UInt8 := [42, 3, 181, 0, 52, 27, 4, 6, 184, 0, 56, 153, 0, 11, 42, 27, 182, 0, 173, 167, 0, 8, 42, 4]
abbrev dktX9_codeLengthWith_0 : List UInt8 := dkwX9_codeLengthWith_0 ++ dktX9_codeLengthWith_1
theorem dksX9_codeLengthWith_0 : cX9_codeLengthWith.data.toList.drop 0 = dktX9_codeLengthWith_0 := by decide +kernel
theorem dksX9_codeLengthWith_1 : cX9_codeLengthWith.data.toList.drop 24 = dktX9_codeLengthWith_1 := dk_seg dksX9_codeLengthWith_0 24 rfl rfl
theorem dX9_codeLengthWith_0 : decode cX9_codeLengthWith 0 = .ok (.aload_n 0, 1) := dk_42 (dk_at dksX9_codeLengthWith_0 0 rfl rfl)
theorem dX9_codeLengthWith_1 : decode cX9_codeLengthWith 1 = .ok (.iconst 0, 1) := dk_3 (dk_at dksX9_codeLengthWith_0 1 rfl rfl)
theorem dX9_codeLengthWith_2 : decode cX9_codeLengthWith 2 = .ok (.putfield 52, 3) := dk_181 0 52 (dk_at dksX9_codeLengthWith_0 2 rfl rfl)
theorem dX9_codeLengthWith_5 : decode cX9_codeLengthWith 5 = .ok (.iload_n 1, 1) := dk_27 (dk_at dksX9_codeLengthWith_0 5 rfl rfl)
theorem dX9_codeLengthWith_6 : decode cX9_codeLengthWith 6 = .ok (.iconst 1, 1) := dk_4 (dk_at dksX9_codeLengthWith_0 6 rfl rfl)
theorem dX9_codeLengthWith_7 : decode cX9_codeLengthWith 7 = .ok (.iconst 3, 1) := dk_6 (dk_at dksX9_codeLengthWith_0 7 rfl rfl)
theorem dX9_codeLengthWith_8 : decode cX9_codeLengthWith 8 = .ok (.invokestatic 56, 3) := dk_184 0 56 (dk_at dksX9_codeLengthWith_0 8 rfl rfl)
theorem dX9_codeLengthWith_11 : decode cX9_codeLengthWith 11 = .ok (.ifCond .eq 11, 3) := dk_153 0 11 (dk_at dksX9_codeLengthWith_0 11 rfl rfl)
theorem dX9_codeLengthWith_14 : decode cX9_codeLengthWith 14 = .ok (.aload_n 0, 1) := dk_42 (dk_at dksX9_codeLengthWith_0 14 rfl rfl)
theorem dX9_codeLengthWith_15 : decode cX9_codeLengthWith 15 = .ok (.iload_n 1, 1) := dk_27 (dk_at dksX9_codeLengthWith_0 15 rfl rfl)
theorem dX9_codeLengthWith_16 : decode cX9_codeLengthWith 16 = .ok (.invokevirtual 173, 3) := dk_182 0 173 (dk_at dksX9_codeLengthWith_0 16 rfl rfl)
theorem dX9_codeLengthWith_19 : decode cX9_codeLengthWith 19 = .ok (.goto 8, 3) := dk_167 0 8 (dk_at dksX9_codeLengthWith_0 19 rfl rfl)
theorem dX9_codeLengthWith_22 : decode cX9_codeLengthWith 22 = .ok (.aload_n 0, 1) := dk_42 (dk_at dksX9_codeLengthWith_0 22 rfl rfl)
theorem dX9_codeLengthWith_23 : decode cX9_codeLengthWith 23 = .ok (.iconst 1, 1) := dk_4 (dk_at dksX9_codeLengthWith_0 23 rfl rfl)
theorem dX9_codeLengthWith_24 : decode cX9_codeLengthWith 24 = .ok (.invokevirtual 63, 3) := dk_182 0 63 (dk_at dksX9_codeLengthWith_1 0 rfl rfl)
theorem dX9_codeLengthWith_27 : decode cX9_codeLengthWith 27 = .ok (.ireturn, 1) := dk_172 (dk_at dksX9_codeLengthWith_1 3 rfl rfl)
abbrev cX9_lengthWith : ByteArray := prog_11_method_54_code
def yX9_lengthWith : MethodName := ⟨RX9, "lengthWith", "(I)I"⟩
def dkwX9_lengthWith_0 : List UInt8 := [42, 27, 182, 0, 82, 42, 27, 182, 0, 158, 42, 182, 0, 164, 172]
abbrev dktX9_lengthWith_0 : List UInt8 := dkwX9_lengthWith_0 ++ []
theorem dksX9_lengthWith_0 : cX9_lengthWith.data.toList.drop 0 = dktX9_lengthWith_0 := by decide +kernel
theorem dX9_lengthWith_0 : decode cX9_lengthWith 0 = .ok (.aload_n 0, 1) := dk_42 (dk_at dksX9_lengthWith_0 0 rfl rfl)
theorem dX9_lengthWith_1 : decode cX9_lengthWith 1 = .ok (.iload_n 1, 1) := dk_27 (dk_at dksX9_lengthWith_0 1 rfl rfl)
theorem dX9_lengthWith_2 : decode cX9_lengthWith 2 = .ok (.invokevirtual 82, 3) := dk_182 0 82 (dk_at dksX9_lengthWith_0 2 rfl rfl)
theorem dX9_lengthWith_5 : decode cX9_lengthWith 5 = .ok (.aload_n 0, 1) := dk_42 (dk_at dksX9_lengthWith_0 5 rfl rfl)
theorem dX9_lengthWith_6 : decode cX9_lengthWith 6 = .ok (.iload_n 1, 1) := dk_27 (dk_at dksX9_lengthWith_0 6 rfl rfl)
theorem dX9_lengthWith_7 : decode cX9_lengthWith 7 = .ok (.invokevirtual 158, 3) := dk_182 0 158 (dk_at dksX9_lengthWith_0 7 rfl rfl)
theorem dX9_lengthWith_10 : decode cX9_lengthWith 10 = .ok (.aload_n 0, 1) := dk_42 (dk_at dksX9_lengthWith_0 10 rfl rfl)
theorem dX9_lengthWith_11 : decode cX9_lengthWith 11 = .ok (.invokevirtual 164, 3) := dk_182 0 164 (dk_at dksX9_lengthWith_0 11 rfl rfl)
theorem dX9_lengthWith_14 : decode cX9_lengthWith 14 = .ok (.ireturn, 1) := dk_172 (dk_at dksX9_lengthWith_0 14 rfl rfl)
abbrev cX9_codeLengthWithout : ByteArray := prog_11_method_57_code
def yX9_codeLengthWithout : MethodName := ⟨RX9, "codeLengthWithout", "(I)I"⟩
def dkwX9_codeLengthWithout_1 : List UInt8 := [182, 0, 63, 172]
abbrev dktX9_codeLengthWithout_1 : List UInt8 := dkwX9_codeLengthWithout_1 ++ []
def dkwX9_codeLengthWithout_0 : List UInt8 := [42, 3, 181, 0, 52, 27, 184, 0, 127, 153, 0, 11, 42, 27, 182, 0, 176, 167, 0, 8, 42, 4]
abbrev dktX9_codeLengthWithout_0 : List UInt8 := dkwX9_codeLengthWithout_0 ++ dktX9_codeLengthWithout_1
theorem dksX9_codeLengthWithout_0 : cX9_codeLengthWithout.data.toList.drop 0 = dktX9_codeLengthWithout_0 := by decide +kernel
theorem dksX9_codeLengthWithout_1 : cX9_codeLengthWithout.data.toList.drop 22 = dktX9_codeLengthWithout_1 := dk_seg dksX9_codeLengthWithout_0 22 rfl rfl
theorem dX9_codeLengthWithout_0 : decode cX9_codeLengthWithout 0 = .ok (.aload_n 0, 1) := dk_42 (dk_at dksX9_codeLengthWithout_0 0 rfl rfl)
theorem dX9_codeLengthWithout_1 : decode cX9_codeLengthWithout 1 = .ok (.iconst 0, 1) := dk_3 (dk_at dksX9_codeLengthWithout_0 1 rfl rfl)
theorem dX9_codeLengthWithout_2 : decode cX9_codeLengthWithout 2 = .ok (.putfield 52, 3) := dk_181 0 52 (dk_at dksX9_codeLengthWithout_0 2 rfl rfl)
theorem dX9_codeLengthWithout_5 : decode cX9_codeLengthWithout 5 = .ok (.iload_n 1, 1) := dk_27 (dk_at dksX9_codeLengthWithout_0 5 rfl rfl)
theorem dX9_codeLengthWithout_6 : decode cX9_codeLengthWithout 6 = .ok (.invokestatic 127, 3) := dk_184 0 127 (dk_at dksX9_codeLengthWithout_0 6 rfl rfl)
theorem dX9_codeLengthWithout_9 : decode cX9_codeLengthWithout 9 = .ok (.ifCond .eq 11, 3) := dk_153 0 11 (dk_at dksX9_codeLengthWithout_0 9 rfl rfl)
theorem dX9_codeLengthWithout_12 : decode cX9_codeLengthWithout 12 = .ok (.aload_n 0, 1) := dk_42 (dk_at dksX9_codeLengthWithout_0 12 rfl rfl)
theorem dX9_codeLengthWithout_13 : decode cX9_codeLengthWithout 13 = .ok (.iload_n 1, 1) := dk_27 (dk_at dksX9_codeLengthWithout_0 13 rfl rfl)
theorem dX9_codeLengthWithout_14 : decode cX9_codeLengthWithout 14 = .ok (.invokevirtual 176, 3) := dk_182 0 176 (dk_at dksX9_codeLengthWithout_0 14 rfl rfl)
theorem dX9_codeLengthWithout_17 : decode cX9_codeLengthWithout 17 = .ok (.goto 8, 3) := dk_167 0 8 (dk_at dksX9_codeLengthWithout_0 17 rfl rfl)
theorem dX9_codeLengthWithout_20 : decode cX9_codeLengthWithout 20 = .ok (.aload_n 0, 1) := dk_42 (dk_at dksX9_codeLengthWithout_0 20 rfl rfl)
theorem dX9_codeLengthWithout_21 : decode cX9_codeLengthWithout 21 = .ok (.iconst 1, 1) := dk_4 (dk_at dksX9_codeLengthWithout_0 21 rfl rfl)
theorem dX9_codeLengthWithout_22 : decode cX9_codeLengthWithout 22 = .ok (.invokevirtual 63, 3) := dk_182 0 63 (dk_at dksX9_codeLengthWithout_1 0 rfl rfl)
theorem dX9_codeLengthWithout_25 : decode cX9_codeLengthWithout 25 = .ok (.ireturn, 1) := dk_172 (dk_at dksX9_codeLengthWithout_1 3 rfl rfl)
abbrev cX9_lengthWithout : ByteArray := prog_11_method_55_code
def yX9_lengthWithout : MethodName := ⟨RX9, "lengthWithout", "(I)I"⟩
def dkwX9_lengthWithout_0 : List UInt8 := [42, 42, 180, 0, 7, 16, 64, 46, 182, 0, 158, 42, 27, 182, 0, 115, 61, 42, 182, 0, 164, 172]
abbrev dktX9_lengthWithout_0 : List UInt8 := dkwX9_lengthWithout_0 ++ []
theorem dksX9_lengthWithout_0 : cX9_lengthWithout.data.toList.drop 0 = dktX9_lengthWithout_0 := by decide +kernel
theorem dX9_lengthWithout_0 : decode cX9_lengthWithout 0 = .ok (.aload_n 0, 1) := dk_42 (dk_at dksX9_lengthWithout_0 0 rfl rfl)
theorem dX9_lengthWithout_1 : decode cX9_lengthWithout 1 = .ok (.aload_n 0, 1) := dk_42 (dk_at dksX9_lengthWithout_0 1 rfl rfl)
theorem dX9_lengthWithout_2 : decode cX9_lengthWithout 2 = .ok (.getfield 7, 3) := dk_180 0 7 (dk_at dksX9_lengthWithout_0 2 rfl rfl)
theorem dX9_lengthWithout_5 : decode cX9_lengthWithout 5 = .ok (.bipush 64, 2) := dk_16 64 (dk_at dksX9_lengthWithout_0 5 rfl rfl)
theorem dX9_lengthWithout_7 : decode cX9_lengthWithout 7 = .ok (.iaload, 1) := dk_46 (dk_at dksX9_lengthWithout_0 7 rfl rfl)
theorem dX9_lengthWithout_8 : decode cX9_lengthWithout 8 = .ok (.invokevirtual 158, 3) := dk_182 0 158 (dk_at dksX9_lengthWithout_0 8 rfl rfl)
theorem dX9_lengthWithout_11 : decode cX9_lengthWithout 11 = .ok (.aload_n 0, 1) := dk_42 (dk_at dksX9_lengthWithout_0 11 rfl rfl)
theorem dX9_lengthWithout_12 : decode cX9_lengthWithout 12 = .ok (.iload_n 1, 1) := dk_27 (dk_at dksX9_lengthWithout_0 12 rfl rfl)
theorem dX9_lengthWithout_13 : decode cX9_lengthWithout 13 = .ok (.invokevirtual 115, 3) := dk_182 0 115 (dk_at dksX9_lengthWithout_0 13 rfl rfl)
theorem dX9_lengthWithout_16 : decode cX9_lengthWithout 16 = .ok (.istore_n 2, 1) := dk_61 (dk_at dksX9_lengthWithout_0 16 rfl rfl)
theorem dX9_lengthWithout_17 : decode cX9_lengthWithout 17 = .ok (.aload_n 0, 1) := dk_42 (dk_at dksX9_lengthWithout_0 17 rfl rfl)
theorem dX9_lengthWithout_18 : decode cX9_lengthWithout 18 = .ok (.invokevirtual 164, 3) := dk_182 0 164 (dk_at dksX9_lengthWithout_0 18 rfl rfl)
theorem dX9_lengthWithout_21 : decode cX9_lengthWithout 21 = .ok (.ireturn, 1) := dk_172 (dk_at dksX9_lengthWithout_0 21 rfl rfl)
abbrev cX9_zeroShare : ByteArray := prog_11_method_59_code
def yX9_zeroShare : MethodName := ⟨RX9, "zeroShare", "()D"⟩
def dkwX9_zeroShare_0 : List UInt8 := [42, 3, 181, 0, 52, 42, 182, 0, 181, 175]
abbrev dktX9_zeroShare_0 : List UInt8 := dkwX9_zeroShare_0 ++ []
theorem dksX9_zeroShare_0 : cX9_zeroShare.data.toList.drop 0 = dktX9_zeroShare_0 := by decide +kernel
theorem dX9_zeroShare_0 : decode cX9_zeroShare 0 = .ok (.aload_n 0, 1) := dk_42 (dk_at dksX9_zeroShare_0 0 rfl rfl)
theorem dX9_zeroShare_1 : decode cX9_zeroShare 1 = .ok (.iconst 0, 1) := dk_3 (dk_at dksX9_zeroShare_0 1 rfl rfl)
theorem dX9_zeroShare_2 : decode cX9_zeroShare 2 = .ok (.putfield 52, 3) := dk_181 0 52 (dk_at dksX9_zeroShare_0 2 rfl rfl)
theorem dX9_zeroShare_5 : decode cX9_zeroShare 5 = .ok (.aload_n 0, 1) := dk_42 (dk_at dksX9_zeroShare_0 5 rfl rfl)
theorem dX9_zeroShare_6 : decode cX9_zeroShare 6 = .ok (.invokevirtual 181, 3) := dk_182 0 181 (dk_at dksX9_zeroShare_0 6 rfl rfl)
theorem dX9_zeroShare_9 : decode cX9_zeroShare 9 = .ok (.dreturn, 1) := dk_175 (dk_at dksX9_zeroShare_0 9 rfl rfl)
abbrev cX9_shareOfZeros : ByteArray := prog_11_method_58_code
def yX9_shareOfZeros : MethodName := ⟨RX9, "shareOfZeros", "()D"⟩
def dkwX9_shareOfZeros_1 : List UInt8 := [4, 167, 0, 4, 3, 96, 60, 132, 2, 1, 167, 255, 230, 27, 135, 20, 0, 179, 111, 175]
abbrev dktX9_shareOfZeros_1 : List UInt8 := dkwX9_shareOfZeros_1 ++ []
def dkwX9_shareOfZeros_0 : List UInt8 := [42, 182, 0, 99, 3, 60, 3, 61, 28, 16, 64, 162, 0, 26, 27, 42, 180, 0, 22, 28, 46, 154, 0, 7]
abbrev dktX9_shareOfZeros_0 : List UInt8 := dkwX9_shareOfZeros_0 ++ dktX9_shareOfZeros_1
theorem dksX9_shareOfZeros_0 : cX9_shareOfZeros.data.toList.drop 0 = dktX9_shareOfZeros_0 := by decide +kernel
theorem dksX9_shareOfZeros_1 : cX9_shareOfZeros.data.toList.drop 24 = dktX9_shareOfZeros_1 := dk_seg dksX9_shareOfZeros_0 24 rfl rfl
theorem dX9_shareOfZeros_0 : decode cX9_shareOfZeros 0 = .ok (.aload_n 0, 1) := dk_42 (dk_at dksX9_shareOfZeros_0 0 rfl rfl)
theorem dX9_shareOfZeros_1 : decode cX9_shareOfZeros 1 = .ok (.invokevirtual 99, 3) := dk_182 0 99 (dk_at dksX9_shareOfZeros_0 1 rfl rfl)
theorem dX9_shareOfZeros_4 : decode cX9_shareOfZeros 4 = .ok (.iconst 0, 1) := dk_3 (dk_at dksX9_shareOfZeros_0 4 rfl rfl)
theorem dX9_shareOfZeros_5 : decode cX9_shareOfZeros 5 = .ok (.istore_n 1, 1) := dk_60 (dk_at dksX9_shareOfZeros_0 5 rfl rfl)
theorem dX9_shareOfZeros_6 : decode cX9_shareOfZeros 6 = .ok (.iconst 0, 1) := dk_3 (dk_at dksX9_shareOfZeros_0 6 rfl rfl)
theorem dX9_shareOfZeros_7 : decode cX9_shareOfZeros 7 = .ok (.istore_n 2, 1) := dk_61 (dk_at dksX9_shareOfZeros_0 7 rfl rfl)
theorem dX9_shareOfZeros_8 : decode cX9_shareOfZeros 8 = .ok (.iload_n 2, 1) := dk_28 (dk_at dksX9_shareOfZeros_0 8 rfl rfl)
theorem dX9_shareOfZeros_9 : decode cX9_shareOfZeros 9 = .ok (.bipush 64, 2) := dk_16 64 (dk_at dksX9_shareOfZeros_0 9 rfl rfl)
theorem dX9_shareOfZeros_11 : decode cX9_shareOfZeros 11 = .ok (.if_icmp .ge 26, 3) := dk_162 0 26 (dk_at dksX9_shareOfZeros_0 11 rfl rfl)
theorem dX9_shareOfZeros_14 : decode cX9_shareOfZeros 14 = .ok (.iload_n 1, 1) := dk_27 (dk_at dksX9_shareOfZeros_0 14 rfl rfl)
theorem dX9_shareOfZeros_15 : decode cX9_shareOfZeros 15 = .ok (.aload_n 0, 1) := dk_42 (dk_at dksX9_shareOfZeros_0 15 rfl rfl)
theorem dX9_shareOfZeros_16 : decode cX9_shareOfZeros 16 = .ok (.getfield 22, 3) := dk_180 0 22 (dk_at dksX9_shareOfZeros_0 16 rfl rfl)
theorem dX9_shareOfZeros_19 : decode cX9_shareOfZeros 19 = .ok (.iload_n 2, 1) := dk_28 (dk_at dksX9_shareOfZeros_0 19 rfl rfl)
theorem dX9_shareOfZeros_20 : decode cX9_shareOfZeros 20 = .ok (.iaload, 1) := dk_46 (dk_at dksX9_shareOfZeros_0 20 rfl rfl)
theorem dX9_shareOfZeros_21 : decode cX9_shareOfZeros 21 = .ok (.ifCond .ne 7, 3) := dk_154 0 7 (dk_at dksX9_shareOfZeros_0 21 rfl rfl)
theorem dX9_shareOfZeros_24 : decode cX9_shareOfZeros 24 = .ok (.iconst 1, 1) := dk_4 (dk_at dksX9_shareOfZeros_1 0 rfl rfl)
theorem dX9_shareOfZeros_25 : decode cX9_shareOfZeros 25 = .ok (.goto 4, 3) := dk_167 0 4 (dk_at dksX9_shareOfZeros_1 1 rfl rfl)
theorem dX9_shareOfZeros_28 : decode cX9_shareOfZeros 28 = .ok (.iconst 0, 1) := dk_3 (dk_at dksX9_shareOfZeros_1 4 rfl rfl)
theorem dX9_shareOfZeros_29 : decode cX9_shareOfZeros 29 = .ok (.iadd, 1) := dk_96 (dk_at dksX9_shareOfZeros_1 5 rfl rfl)
theorem dX9_shareOfZeros_30 : decode cX9_shareOfZeros 30 = .ok (.istore_n 1, 1) := dk_60 (dk_at dksX9_shareOfZeros_1 6 rfl rfl)
theorem dX9_shareOfZeros_31 : decode cX9_shareOfZeros 31 = .ok (.iinc 2 1, 3) := dk_132 2 1 (dk_at dksX9_shareOfZeros_1 7 rfl rfl)
theorem dX9_shareOfZeros_34 : decode cX9_shareOfZeros 34 = .ok (.goto (-26), 3) := dk_167 255 230 (dk_at dksX9_shareOfZeros_1 10 rfl rfl)
theorem dX9_shareOfZeros_37 : decode cX9_shareOfZeros 37 = .ok (.iload_n 1, 1) := dk_27 (dk_at dksX9_shareOfZeros_1 13 rfl rfl)
theorem dX9_shareOfZeros_38 : decode cX9_shareOfZeros 38 = .ok (.i2d, 1) := dk_135 (dk_at dksX9_shareOfZeros_1 14 rfl rfl)
theorem dX9_shareOfZeros_39 : decode cX9_shareOfZeros 39 = .ok (.ldc2_w 179, 3) := dk_20 0 179 (dk_at dksX9_shareOfZeros_1 15 rfl rfl)
theorem dX9_shareOfZeros_42 : decode cX9_shareOfZeros 42 = .ok (.ddiv, 1) := dk_111 (dk_at dksX9_shareOfZeros_1 18 rfl rfl)
theorem dX9_shareOfZeros_43 : decode cX9_shareOfZeros 43 = .ok (.dreturn, 1) := dk_175 (dk_at dksX9_shareOfZeros_1 19 rfl rfl)
abbrev cX9_setShade : ByteArray := prog_11_method_60_code
def yX9_setShade : MethodName := ⟨RX9, "setShade", "(III)I"⟩
def dkwX9_setShade_2 : List UInt8 := [54, 4, 42, 180, 0, 7, 16, 8, 27, 104, 28, 96, 29, 79, 21, 4, 172]
abbrev dktX9_setShade_2 : List UInt8 := dkwX9_setShade_2 ++ []
def dkwX9_setShade_1 : List UInt8 := [154, 0, 9, 42, 5, 182, 0, 63, 172, 42, 182, 0, 75, 42, 180, 0, 7, 16, 8, 27, 104, 28, 96, 46]
abbrev dktX9_setShade_1 : List UInt8 := dkwX9_setShade_1 ++ dktX9_setShade_2
def dkwX9_setShade_0 : List UInt8 := [42, 3, 181, 0, 52, 27, 28, 184, 0, 146, 154, 0, 9, 42, 4, 182, 0, 63, 172, 29, 184, 0, 127]
abbrev dktX9_setShade_0 : List UInt8 := dkwX9_setShade_0 ++ dktX9_setShade_1
theorem dksX9_setShade_0 : cX9_setShade.data.toList.drop 0 = dktX9_setShade_0 := by decide +kernel
theorem dksX9_setShade_1 : cX9_setShade.data.toList.drop 23 = dktX9_setShade_1 := dk_seg dksX9_setShade_0 23 rfl rfl
theorem dksX9_setShade_2 : cX9_setShade.data.toList.drop 47 = dktX9_setShade_2 := dk_seg dksX9_setShade_1 24 rfl rfl
theorem dX9_setShade_0 : decode cX9_setShade 0 = .ok (.aload_n 0, 1) := dk_42 (dk_at dksX9_setShade_0 0 rfl rfl)
theorem dX9_setShade_1 : decode cX9_setShade 1 = .ok (.iconst 0, 1) := dk_3 (dk_at dksX9_setShade_0 1 rfl rfl)
theorem dX9_setShade_2 : decode cX9_setShade 2 = .ok (.putfield 52, 3) := dk_181 0 52 (dk_at dksX9_setShade_0 2 rfl rfl)
theorem dX9_setShade_5 : decode cX9_setShade 5 = .ok (.iload_n 1, 1) := dk_27 (dk_at dksX9_setShade_0 5 rfl rfl)
theorem dX9_setShade_6 : decode cX9_setShade 6 = .ok (.iload_n 2, 1) := dk_28 (dk_at dksX9_setShade_0 6 rfl rfl)
theorem dX9_setShade_7 : decode cX9_setShade 7 = .ok (.invokestatic 146, 3) := dk_184 0 146 (dk_at dksX9_setShade_0 7 rfl rfl)
theorem dX9_setShade_10 : decode cX9_setShade 10 = .ok (.ifCond .ne 9, 3) := dk_154 0 9 (dk_at dksX9_setShade_0 10 rfl rfl)
theorem dX9_setShade_13 : decode cX9_setShade 13 = .ok (.aload_n 0, 1) := dk_42 (dk_at dksX9_setShade_0 13 rfl rfl)
theorem dX9_setShade_14 : decode cX9_setShade 14 = .ok (.iconst 1, 1) := dk_4 (dk_at dksX9_setShade_0 14 rfl rfl)
theorem dX9_setShade_15 : decode cX9_setShade 15 = .ok (.invokevirtual 63, 3) := dk_182 0 63 (dk_at dksX9_setShade_0 15 rfl rfl)
theorem dX9_setShade_18 : decode cX9_setShade 18 = .ok (.ireturn, 1) := dk_172 (dk_at dksX9_setShade_0 18 rfl rfl)
theorem dX9_setShade_19 : decode cX9_setShade 19 = .ok (.iload_n 3, 1) := dk_29 (dk_at dksX9_setShade_0 19 rfl rfl)
theorem dX9_setShade_20 : decode cX9_setShade 20 = .ok (.invokestatic 127, 3) := dk_184 0 127 (dk_at dksX9_setShade_0 20 rfl rfl)
theorem dX9_setShade_23 : decode cX9_setShade 23 = .ok (.ifCond .ne 9, 3) := dk_154 0 9 (dk_at dksX9_setShade_1 0 rfl rfl)
theorem dX9_setShade_26 : decode cX9_setShade 26 = .ok (.aload_n 0, 1) := dk_42 (dk_at dksX9_setShade_1 3 rfl rfl)
theorem dX9_setShade_27 : decode cX9_setShade 27 = .ok (.iconst 2, 1) := dk_5 (dk_at dksX9_setShade_1 4 rfl rfl)
theorem dX9_setShade_28 : decode cX9_setShade 28 = .ok (.invokevirtual 63, 3) := dk_182 0 63 (dk_at dksX9_setShade_1 5 rfl rfl)
theorem dX9_setShade_31 : decode cX9_setShade 31 = .ok (.ireturn, 1) := dk_172 (dk_at dksX9_setShade_1 8 rfl rfl)
theorem dX9_setShade_32 : decode cX9_setShade 32 = .ok (.aload_n 0, 1) := dk_42 (dk_at dksX9_setShade_1 9 rfl rfl)
theorem dX9_setShade_33 : decode cX9_setShade 33 = .ok (.invokevirtual 75, 3) := dk_182 0 75 (dk_at dksX9_setShade_1 10 rfl rfl)
theorem dX9_setShade_36 : decode cX9_setShade 36 = .ok (.aload_n 0, 1) := dk_42 (dk_at dksX9_setShade_1 13 rfl rfl)
theorem dX9_setShade_37 : decode cX9_setShade 37 = .ok (.getfield 7, 3) := dk_180 0 7 (dk_at dksX9_setShade_1 14 rfl rfl)
theorem dX9_setShade_40 : decode cX9_setShade 40 = .ok (.bipush 8, 2) := dk_16 8 (dk_at dksX9_setShade_1 17 rfl rfl)
theorem dX9_setShade_42 : decode cX9_setShade 42 = .ok (.iload_n 1, 1) := dk_27 (dk_at dksX9_setShade_1 19 rfl rfl)
theorem dX9_setShade_43 : decode cX9_setShade 43 = .ok (.imul, 1) := dk_104 (dk_at dksX9_setShade_1 20 rfl rfl)
theorem dX9_setShade_44 : decode cX9_setShade 44 = .ok (.iload_n 2, 1) := dk_28 (dk_at dksX9_setShade_1 21 rfl rfl)
theorem dX9_setShade_45 : decode cX9_setShade 45 = .ok (.iadd, 1) := dk_96 (dk_at dksX9_setShade_1 22 rfl rfl)
theorem dX9_setShade_46 : decode cX9_setShade 46 = .ok (.iaload, 1) := dk_46 (dk_at dksX9_setShade_1 23 rfl rfl)
theorem dX9_setShade_47 : decode cX9_setShade 47 = .ok (.istore 4, 2) := dk_54 4 (dk_at dksX9_setShade_2 0 rfl rfl)
theorem dX9_setShade_49 : decode cX9_setShade 49 = .ok (.aload_n 0, 1) := dk_42 (dk_at dksX9_setShade_2 2 rfl rfl)
theorem dX9_setShade_50 : decode cX9_setShade 50 = .ok (.getfield 7, 3) := dk_180 0 7 (dk_at dksX9_setShade_2 3 rfl rfl)
theorem dX9_setShade_53 : decode cX9_setShade 53 = .ok (.bipush 8, 2) := dk_16 8 (dk_at dksX9_setShade_2 6 rfl rfl)
theorem dX9_setShade_55 : decode cX9_setShade 55 = .ok (.iload_n 1, 1) := dk_27 (dk_at dksX9_setShade_2 8 rfl rfl)
theorem dX9_setShade_56 : decode cX9_setShade 56 = .ok (.imul, 1) := dk_104 (dk_at dksX9_setShade_2 9 rfl rfl)
theorem dX9_setShade_57 : decode cX9_setShade 57 = .ok (.iload_n 2, 1) := dk_28 (dk_at dksX9_setShade_2 10 rfl rfl)
theorem dX9_setShade_58 : decode cX9_setShade 58 = .ok (.iadd, 1) := dk_96 (dk_at dksX9_setShade_2 11 rfl rfl)
theorem dX9_setShade_59 : decode cX9_setShade 59 = .ok (.iload_n 3, 1) := dk_29 (dk_at dksX9_setShade_2 12 rfl rfl)
theorem dX9_setShade_60 : decode cX9_setShade 60 = .ok (.iastore, 1) := dk_79 (dk_at dksX9_setShade_2 13 rfl rfl)
theorem dX9_setShade_61 : decode cX9_setShade 61 = .ok (.iload 4, 2) := dk_21 4 (dk_at dksX9_setShade_2 14 rfl rfl)
theorem dX9_setShade_63 : decode cX9_setShade 63 = .ok (.ireturn, 1) := dk_172 (dk_at dksX9_setShade_2 16 rfl rfl)
abbrev cX9_fillRow : ByteArray := prog_11_method_61_code
def yX9_fillRow : MethodName := ⟨RX9, "fillRow", "(III)I"⟩
def dkwX9_fillRow_5 : List UInt8 := [104, 21, 5, 96, 28, 21, 5, 29, 104, 96, 79, 132, 5, 1, 167, 255, 197, 21, 4, 172]
abbrev dktX9_fillRow_5 : List UInt8 := dkwX9_fillRow_5 ++ []
def dkwX9_fillRow_4 : List UInt8 := [28, 21, 5, 29, 104, 96, 159, 0, 7, 4, 167, 0, 4, 3, 96, 54, 4, 42, 180, 0, 7, 16, 8, 27]
abbrev dktX9_fillRow_4 : List UInt8 := dkwX9_fillRow_4 ++ dktX9_fillRow_5
def dkwX9_fillRow_3 : List UInt8 := [3, 54, 5, 21, 5, 16, 8, 162, 0, 58, 21, 4, 42, 180, 0, 7, 16, 8, 27, 104, 21, 5, 96, 46]
abbrev dktX9_fillRow_3 : List UInt8 := dkwX9_fillRow_3 ++ dktX9_fillRow_4
def dkwX9_fillRow_2 : List UInt8 := [16, 7, 29, 104, 96, 184, 0, 127, 154, 0, 9, 42, 6, 182, 0, 63, 172, 42, 182, 0, 75, 3, 54, 4]
abbrev dktX9_fillRow_2 : List UInt8 := dkwX9_fillRow_2 ++ dktX9_fillRow_3
def dkwX9_fillRow_1 : List UInt8 := [184, 0, 127, 153, 0, 14, 29, 16, 220, 16, 36, 184, 0, 56, 154, 0, 9, 42, 5, 182, 0, 63, 172, 28]
abbrev dktX9_fillRow_1 : List UInt8 := dkwX9_fillRow_1 ++ dktX9_fillRow_2
def dkwX9_fillRow_0 : List UInt8 := [42, 3, 181, 0, 52, 27, 3, 16, 7, 184, 0, 56, 154, 0, 9, 42, 4, 182, 0, 63, 172, 28]
abbrev dktX9_fillRow_0 : List UInt8 := dkwX9_fillRow_0 ++ dktX9_fillRow_1
theorem dksX9_fillRow_0 : cX9_fillRow.data.toList.drop 0 = dktX9_fillRow_0 := by decide +kernel
theorem dksX9_fillRow_1 : cX9_fillRow.data.toList.drop 22 = dktX9_fillRow_1 := dk_seg dksX9_fillRow_0 22 rfl rfl
theorem dksX9_fillRow_2 : cX9_fillRow.data.toList.drop 46 = dktX9_fillRow_2 := dk_seg dksX9_fillRow_1 24 rfl rfl
theorem dksX9_fillRow_3 : cX9_fillRow.data.toList.drop 70 = dktX9_fillRow_3 := dk_seg dksX9_fillRow_2 24 rfl rfl
theorem dksX9_fillRow_4 : cX9_fillRow.data.toList.drop 94 = dktX9_fillRow_4 := dk_seg dksX9_fillRow_3 24 rfl rfl
theorem dksX9_fillRow_5 : cX9_fillRow.data.toList.drop 118 = dktX9_fillRow_5 := dk_seg dksX9_fillRow_4 24 rfl rfl
theorem dX9_fillRow_0 : decode cX9_fillRow 0 = .ok (.aload_n 0, 1) := dk_42 (dk_at dksX9_fillRow_0 0 rfl rfl)
theorem dX9_fillRow_1 : decode cX9_fillRow 1 = .ok (.iconst 0, 1) := dk_3 (dk_at dksX9_fillRow_0 1 rfl rfl)
theorem dX9_fillRow_2 : decode cX9_fillRow 2 = .ok (.putfield 52, 3) := dk_181 0 52 (dk_at dksX9_fillRow_0 2 rfl rfl)
theorem dX9_fillRow_5 : decode cX9_fillRow 5 = .ok (.iload_n 1, 1) := dk_27 (dk_at dksX9_fillRow_0 5 rfl rfl)
theorem dX9_fillRow_6 : decode cX9_fillRow 6 = .ok (.iconst 0, 1) := dk_3 (dk_at dksX9_fillRow_0 6 rfl rfl)
theorem dX9_fillRow_7 : decode cX9_fillRow 7 = .ok (.bipush 7, 2) := dk_16 7 (dk_at dksX9_fillRow_0 7 rfl rfl)
theorem dX9_fillRow_9 : decode cX9_fillRow 9 = .ok (.invokestatic 56, 3) := dk_184 0 56 (dk_at dksX9_fillRow_0 9 rfl rfl)
theorem dX9_fillRow_12 : decode cX9_fillRow 12 = .ok (.ifCond .ne 9, 3) := dk_154 0 9 (dk_at dksX9_fillRow_0 12 rfl rfl)
theorem dX9_fillRow_15 : decode cX9_fillRow 15 = .ok (.aload_n 0, 1) := dk_42 (dk_at dksX9_fillRow_0 15 rfl rfl)
theorem dX9_fillRow_16 : decode cX9_fillRow 16 = .ok (.iconst 1, 1) := dk_4 (dk_at dksX9_fillRow_0 16 rfl rfl)
theorem dX9_fillRow_17 : decode cX9_fillRow 17 = .ok (.invokevirtual 63, 3) := dk_182 0 63 (dk_at dksX9_fillRow_0 17 rfl rfl)
theorem dX9_fillRow_20 : decode cX9_fillRow 20 = .ok (.ireturn, 1) := dk_172 (dk_at dksX9_fillRow_0 20 rfl rfl)
theorem dX9_fillRow_21 : decode cX9_fillRow 21 = .ok (.iload_n 2, 1) := dk_28 (dk_at dksX9_fillRow_0 21 rfl rfl)
theorem dX9_fillRow_22 : decode cX9_fillRow 22 = .ok (.invokestatic 127, 3) := dk_184 0 127 (dk_at dksX9_fillRow_1 0 rfl rfl)
theorem dX9_fillRow_25 : decode cX9_fillRow 25 = .ok (.ifCond .eq 14, 3) := dk_153 0 14 (dk_at dksX9_fillRow_1 3 rfl rfl)
theorem dX9_fillRow_28 : decode cX9_fillRow 28 = .ok (.iload_n 3, 1) := dk_29 (dk_at dksX9_fillRow_1 6 rfl rfl)
theorem dX9_fillRow_29 : decode cX9_fillRow 29 = .ok (.bipush (-36), 2) := dk_16 220 (dk_at dksX9_fillRow_1 7 rfl rfl)
theorem dX9_fillRow_31 : decode cX9_fillRow 31 = .ok (.bipush 36, 2) := dk_16 36 (dk_at dksX9_fillRow_1 9 rfl rfl)
theorem dX9_fillRow_33 : decode cX9_fillRow 33 = .ok (.invokestatic 56, 3) := dk_184 0 56 (dk_at dksX9_fillRow_1 11 rfl rfl)
theorem dX9_fillRow_36 : decode cX9_fillRow 36 = .ok (.ifCond .ne 9, 3) := dk_154 0 9 (dk_at dksX9_fillRow_1 14 rfl rfl)
theorem dX9_fillRow_39 : decode cX9_fillRow 39 = .ok (.aload_n 0, 1) := dk_42 (dk_at dksX9_fillRow_1 17 rfl rfl)
theorem dX9_fillRow_40 : decode cX9_fillRow 40 = .ok (.iconst 2, 1) := dk_5 (dk_at dksX9_fillRow_1 18 rfl rfl)
theorem dX9_fillRow_41 : decode cX9_fillRow 41 = .ok (.invokevirtual 63, 3) := dk_182 0 63 (dk_at dksX9_fillRow_1 19 rfl rfl)
theorem dX9_fillRow_44 : decode cX9_fillRow 44 = .ok (.ireturn, 1) := dk_172 (dk_at dksX9_fillRow_1 22 rfl rfl)
theorem dX9_fillRow_45 : decode cX9_fillRow 45 = .ok (.iload_n 2, 1) := dk_28 (dk_at dksX9_fillRow_1 23 rfl rfl)
theorem dX9_fillRow_46 : decode cX9_fillRow 46 = .ok (.bipush 7, 2) := dk_16 7 (dk_at dksX9_fillRow_2 0 rfl rfl)
theorem dX9_fillRow_48 : decode cX9_fillRow 48 = .ok (.iload_n 3, 1) := dk_29 (dk_at dksX9_fillRow_2 2 rfl rfl)
theorem dX9_fillRow_49 : decode cX9_fillRow 49 = .ok (.imul, 1) := dk_104 (dk_at dksX9_fillRow_2 3 rfl rfl)
theorem dX9_fillRow_50 : decode cX9_fillRow 50 = .ok (.iadd, 1) := dk_96 (dk_at dksX9_fillRow_2 4 rfl rfl)
theorem dX9_fillRow_51 : decode cX9_fillRow 51 = .ok (.invokestatic 127, 3) := dk_184 0 127 (dk_at dksX9_fillRow_2 5 rfl rfl)
theorem dX9_fillRow_54 : decode cX9_fillRow 54 = .ok (.ifCond .ne 9, 3) := dk_154 0 9 (dk_at dksX9_fillRow_2 8 rfl rfl)
theorem dX9_fillRow_57 : decode cX9_fillRow 57 = .ok (.aload_n 0, 1) := dk_42 (dk_at dksX9_fillRow_2 11 rfl rfl)
theorem dX9_fillRow_58 : decode cX9_fillRow 58 = .ok (.iconst 3, 1) := dk_6 (dk_at dksX9_fillRow_2 12 rfl rfl)
theorem dX9_fillRow_59 : decode cX9_fillRow 59 = .ok (.invokevirtual 63, 3) := dk_182 0 63 (dk_at dksX9_fillRow_2 13 rfl rfl)
theorem dX9_fillRow_62 : decode cX9_fillRow 62 = .ok (.ireturn, 1) := dk_172 (dk_at dksX9_fillRow_2 16 rfl rfl)
theorem dX9_fillRow_63 : decode cX9_fillRow 63 = .ok (.aload_n 0, 1) := dk_42 (dk_at dksX9_fillRow_2 17 rfl rfl)
theorem dX9_fillRow_64 : decode cX9_fillRow 64 = .ok (.invokevirtual 75, 3) := dk_182 0 75 (dk_at dksX9_fillRow_2 18 rfl rfl)
theorem dX9_fillRow_67 : decode cX9_fillRow 67 = .ok (.iconst 0, 1) := dk_3 (dk_at dksX9_fillRow_2 21 rfl rfl)
theorem dX9_fillRow_68 : decode cX9_fillRow 68 = .ok (.istore 4, 2) := dk_54 4 (dk_at dksX9_fillRow_2 22 rfl rfl)
theorem dX9_fillRow_70 : decode cX9_fillRow 70 = .ok (.iconst 0, 1) := dk_3 (dk_at dksX9_fillRow_3 0 rfl rfl)
theorem dX9_fillRow_71 : decode cX9_fillRow 71 = .ok (.istore 5, 2) := dk_54 5 (dk_at dksX9_fillRow_3 1 rfl rfl)
theorem dX9_fillRow_73 : decode cX9_fillRow 73 = .ok (.iload 5, 2) := dk_21 5 (dk_at dksX9_fillRow_3 3 rfl rfl)
theorem dX9_fillRow_75 : decode cX9_fillRow 75 = .ok (.bipush 8, 2) := dk_16 8 (dk_at dksX9_fillRow_3 5 rfl rfl)
theorem dX9_fillRow_77 : decode cX9_fillRow 77 = .ok (.if_icmp .ge 58, 3) := dk_162 0 58 (dk_at dksX9_fillRow_3 7 rfl rfl)
theorem dX9_fillRow_80 : decode cX9_fillRow 80 = .ok (.iload 4, 2) := dk_21 4 (dk_at dksX9_fillRow_3 10 rfl rfl)
theorem dX9_fillRow_82 : decode cX9_fillRow 82 = .ok (.aload_n 0, 1) := dk_42 (dk_at dksX9_fillRow_3 12 rfl rfl)
theorem dX9_fillRow_83 : decode cX9_fillRow 83 = .ok (.getfield 7, 3) := dk_180 0 7 (dk_at dksX9_fillRow_3 13 rfl rfl)
theorem dX9_fillRow_86 : decode cX9_fillRow 86 = .ok (.bipush 8, 2) := dk_16 8 (dk_at dksX9_fillRow_3 16 rfl rfl)
theorem dX9_fillRow_88 : decode cX9_fillRow 88 = .ok (.iload_n 1, 1) := dk_27 (dk_at dksX9_fillRow_3 18 rfl rfl)
theorem dX9_fillRow_89 : decode cX9_fillRow 89 = .ok (.imul, 1) := dk_104 (dk_at dksX9_fillRow_3 19 rfl rfl)
theorem dX9_fillRow_90 : decode cX9_fillRow 90 = .ok (.iload 5, 2) := dk_21 5 (dk_at dksX9_fillRow_3 20 rfl rfl)
theorem dX9_fillRow_92 : decode cX9_fillRow 92 = .ok (.iadd, 1) := dk_96 (dk_at dksX9_fillRow_3 22 rfl rfl)
theorem dX9_fillRow_93 : decode cX9_fillRow 93 = .ok (.iaload, 1) := dk_46 (dk_at dksX9_fillRow_3 23 rfl rfl)
theorem dX9_fillRow_94 : decode cX9_fillRow 94 = .ok (.iload_n 2, 1) := dk_28 (dk_at dksX9_fillRow_4 0 rfl rfl)
theorem dX9_fillRow_95 : decode cX9_fillRow 95 = .ok (.iload 5, 2) := dk_21 5 (dk_at dksX9_fillRow_4 1 rfl rfl)
theorem dX9_fillRow_97 : decode cX9_fillRow 97 = .ok (.iload_n 3, 1) := dk_29 (dk_at dksX9_fillRow_4 3 rfl rfl)
theorem dX9_fillRow_98 : decode cX9_fillRow 98 = .ok (.imul, 1) := dk_104 (dk_at dksX9_fillRow_4 4 rfl rfl)
theorem dX9_fillRow_99 : decode cX9_fillRow 99 = .ok (.iadd, 1) := dk_96 (dk_at dksX9_fillRow_4 5 rfl rfl)
theorem dX9_fillRow_100 : decode cX9_fillRow 100 = .ok (.if_icmp .eq 7, 3) := dk_159 0 7 (dk_at dksX9_fillRow_4 6 rfl rfl)
theorem dX9_fillRow_103 : decode cX9_fillRow 103 = .ok (.iconst 1, 1) := dk_4 (dk_at dksX9_fillRow_4 9 rfl rfl)
theorem dX9_fillRow_104 : decode cX9_fillRow 104 = .ok (.goto 4, 3) := dk_167 0 4 (dk_at dksX9_fillRow_4 10 rfl rfl)
theorem dX9_fillRow_107 : decode cX9_fillRow 107 = .ok (.iconst 0, 1) := dk_3 (dk_at dksX9_fillRow_4 13 rfl rfl)
theorem dX9_fillRow_108 : decode cX9_fillRow 108 = .ok (.iadd, 1) := dk_96 (dk_at dksX9_fillRow_4 14 rfl rfl)
theorem dX9_fillRow_109 : decode cX9_fillRow 109 = .ok (.istore 4, 2) := dk_54 4 (dk_at dksX9_fillRow_4 15 rfl rfl)
theorem dX9_fillRow_111 : decode cX9_fillRow 111 = .ok (.aload_n 0, 1) := dk_42 (dk_at dksX9_fillRow_4 17 rfl rfl)
theorem dX9_fillRow_112 : decode cX9_fillRow 112 = .ok (.getfield 7, 3) := dk_180 0 7 (dk_at dksX9_fillRow_4 18 rfl rfl)
theorem dX9_fillRow_115 : decode cX9_fillRow 115 = .ok (.bipush 8, 2) := dk_16 8 (dk_at dksX9_fillRow_4 21 rfl rfl)
theorem dX9_fillRow_117 : decode cX9_fillRow 117 = .ok (.iload_n 1, 1) := dk_27 (dk_at dksX9_fillRow_4 23 rfl rfl)
theorem dX9_fillRow_118 : decode cX9_fillRow 118 = .ok (.imul, 1) := dk_104 (dk_at dksX9_fillRow_5 0 rfl rfl)
theorem dX9_fillRow_119 : decode cX9_fillRow 119 = .ok (.iload 5, 2) := dk_21 5 (dk_at dksX9_fillRow_5 1 rfl rfl)
theorem dX9_fillRow_121 : decode cX9_fillRow 121 = .ok (.iadd, 1) := dk_96 (dk_at dksX9_fillRow_5 3 rfl rfl)
theorem dX9_fillRow_122 : decode cX9_fillRow 122 = .ok (.iload_n 2, 1) := dk_28 (dk_at dksX9_fillRow_5 4 rfl rfl)
theorem dX9_fillRow_123 : decode cX9_fillRow 123 = .ok (.iload 5, 2) := dk_21 5 (dk_at dksX9_fillRow_5 5 rfl rfl)
theorem dX9_fillRow_125 : decode cX9_fillRow 125 = .ok (.iload_n 3, 1) := dk_29 (dk_at dksX9_fillRow_5 7 rfl rfl)
theorem dX9_fillRow_126 : decode cX9_fillRow 126 = .ok (.imul, 1) := dk_104 (dk_at dksX9_fillRow_5 8 rfl rfl)
theorem dX9_fillRow_127 : decode cX9_fillRow 127 = .ok (.iadd, 1) := dk_96 (dk_at dksX9_fillRow_5 9 rfl rfl)
theorem dX9_fillRow_128 : decode cX9_fillRow 128 = .ok (.iastore, 1) := dk_79 (dk_at dksX9_fillRow_5 10 rfl rfl)
theorem dX9_fillRow_129 : decode cX9_fillRow 129 = .ok (.iinc 5 1, 3) := dk_132 5 1 (dk_at dksX9_fillRow_5 11 rfl rfl)
theorem dX9_fillRow_132 : decode cX9_fillRow 132 = .ok (.goto (-59), 3) := dk_167 255 197 (dk_at dksX9_fillRow_5 14 rfl rfl)
theorem dX9_fillRow_135 : decode cX9_fillRow 135 = .ok (.iload 4, 2) := dk_21 4 (dk_at dksX9_fillRow_5 17 rfl rfl)
theorem dX9_fillRow_137 : decode cX9_fillRow 137 = .ok (.ireturn, 1) := dk_172 (dk_at dksX9_fillRow_5 19 rfl rfl)
abbrev cX9_setPart : ByteArray := prog_11_method_64_code
def yX9_setPart : MethodName := ⟨RX9, "setPart", "(III)I"⟩
def dkwX9_setPart_3 : List UInt8 := [6, 182, 0, 63, 172, 42, 182, 0, 75, 42, 182, 0, 188, 54, 5, 21, 4, 172]
abbrev dktX9_setPart_3 : List UInt8 := dkwX9_setPart_3 ++ []
def dkwX9_setPart_2 : List UInt8 := [16, 8, 27, 104, 28, 96, 46, 54, 4, 42, 16, 8, 27, 104, 28, 96, 29, 182, 0, 185, 154, 0, 9, 42]
abbrev dktX9_setPart_2 : List UInt8 := dkwX9_setPart_2 ++ dktX9_setPart_3
def dkwX9_setPart_1 : List UInt8 := [17, 0, 255, 184, 0, 56, 154, 0, 9, 42, 5, 182, 0, 63, 172, 42, 182, 0, 99, 42, 180, 0, 22]
abbrev dktX9_setPart_1 : List UInt8 := dkwX9_setPart_1 ++ dktX9_setPart_2
def dkwX9_setPart_0 : List UInt8 := [42, 3, 181, 0, 52, 27, 28, 184, 0, 146, 154, 0, 9, 42, 4, 182, 0, 63, 172, 29, 17, 255, 1]
abbrev dktX9_setPart_0 : List UInt8 := dkwX9_setPart_0 ++ dktX9_setPart_1
theorem dksX9_setPart_0 : cX9_setPart.data.toList.drop 0 = dktX9_setPart_0 := by decide +kernel
theorem dksX9_setPart_1 : cX9_setPart.data.toList.drop 23 = dktX9_setPart_1 := dk_seg dksX9_setPart_0 23 rfl rfl
theorem dksX9_setPart_2 : cX9_setPart.data.toList.drop 46 = dktX9_setPart_2 := dk_seg dksX9_setPart_1 23 rfl rfl
theorem dksX9_setPart_3 : cX9_setPart.data.toList.drop 70 = dktX9_setPart_3 := dk_seg dksX9_setPart_2 24 rfl rfl
theorem dX9_setPart_0 : decode cX9_setPart 0 = .ok (.aload_n 0, 1) := dk_42 (dk_at dksX9_setPart_0 0 rfl rfl)
theorem dX9_setPart_1 : decode cX9_setPart 1 = .ok (.iconst 0, 1) := dk_3 (dk_at dksX9_setPart_0 1 rfl rfl)
theorem dX9_setPart_2 : decode cX9_setPart 2 = .ok (.putfield 52, 3) := dk_181 0 52 (dk_at dksX9_setPart_0 2 rfl rfl)
theorem dX9_setPart_5 : decode cX9_setPart 5 = .ok (.iload_n 1, 1) := dk_27 (dk_at dksX9_setPart_0 5 rfl rfl)
theorem dX9_setPart_6 : decode cX9_setPart 6 = .ok (.iload_n 2, 1) := dk_28 (dk_at dksX9_setPart_0 6 rfl rfl)
theorem dX9_setPart_7 : decode cX9_setPart 7 = .ok (.invokestatic 146, 3) := dk_184 0 146 (dk_at dksX9_setPart_0 7 rfl rfl)
theorem dX9_setPart_10 : decode cX9_setPart 10 = .ok (.ifCond .ne 9, 3) := dk_154 0 9 (dk_at dksX9_setPart_0 10 rfl rfl)
theorem dX9_setPart_13 : decode cX9_setPart 13 = .ok (.aload_n 0, 1) := dk_42 (dk_at dksX9_setPart_0 13 rfl rfl)
theorem dX9_setPart_14 : decode cX9_setPart 14 = .ok (.iconst 1, 1) := dk_4 (dk_at dksX9_setPart_0 14 rfl rfl)
theorem dX9_setPart_15 : decode cX9_setPart 15 = .ok (.invokevirtual 63, 3) := dk_182 0 63 (dk_at dksX9_setPart_0 15 rfl rfl)
theorem dX9_setPart_18 : decode cX9_setPart 18 = .ok (.ireturn, 1) := dk_172 (dk_at dksX9_setPart_0 18 rfl rfl)
theorem dX9_setPart_19 : decode cX9_setPart 19 = .ok (.iload_n 3, 1) := dk_29 (dk_at dksX9_setPart_0 19 rfl rfl)
theorem dX9_setPart_20 : decode cX9_setPart 20 = .ok (.sipush (-255), 3) := dk_17 255 1 (dk_at dksX9_setPart_0 20 rfl rfl)
theorem dX9_setPart_23 : decode cX9_setPart 23 = .ok (.sipush 255, 3) := dk_17 0 255 (dk_at dksX9_setPart_1 0 rfl rfl)
theorem dX9_setPart_26 : decode cX9_setPart 26 = .ok (.invokestatic 56, 3) := dk_184 0 56 (dk_at dksX9_setPart_1 3 rfl rfl)
theorem dX9_setPart_29 : decode cX9_setPart 29 = .ok (.ifCond .ne 9, 3) := dk_154 0 9 (dk_at dksX9_setPart_1 6 rfl rfl)
theorem dX9_setPart_32 : decode cX9_setPart 32 = .ok (.aload_n 0, 1) := dk_42 (dk_at dksX9_setPart_1 9 rfl rfl)
theorem dX9_setPart_33 : decode cX9_setPart 33 = .ok (.iconst 2, 1) := dk_5 (dk_at dksX9_setPart_1 10 rfl rfl)
theorem dX9_setPart_34 : decode cX9_setPart 34 = .ok (.invokevirtual 63, 3) := dk_182 0 63 (dk_at dksX9_setPart_1 11 rfl rfl)
theorem dX9_setPart_37 : decode cX9_setPart 37 = .ok (.ireturn, 1) := dk_172 (dk_at dksX9_setPart_1 14 rfl rfl)
theorem dX9_setPart_38 : decode cX9_setPart 38 = .ok (.aload_n 0, 1) := dk_42 (dk_at dksX9_setPart_1 15 rfl rfl)
theorem dX9_setPart_39 : decode cX9_setPart 39 = .ok (.invokevirtual 99, 3) := dk_182 0 99 (dk_at dksX9_setPart_1 16 rfl rfl)
theorem dX9_setPart_42 : decode cX9_setPart 42 = .ok (.aload_n 0, 1) := dk_42 (dk_at dksX9_setPart_1 19 rfl rfl)
theorem dX9_setPart_43 : decode cX9_setPart 43 = .ok (.getfield 22, 3) := dk_180 0 22 (dk_at dksX9_setPart_1 20 rfl rfl)
theorem dX9_setPart_46 : decode cX9_setPart 46 = .ok (.bipush 8, 2) := dk_16 8 (dk_at dksX9_setPart_2 0 rfl rfl)
theorem dX9_setPart_48 : decode cX9_setPart 48 = .ok (.iload_n 1, 1) := dk_27 (dk_at dksX9_setPart_2 2 rfl rfl)
theorem dX9_setPart_49 : decode cX9_setPart 49 = .ok (.imul, 1) := dk_104 (dk_at dksX9_setPart_2 3 rfl rfl)
theorem dX9_setPart_50 : decode cX9_setPart 50 = .ok (.iload_n 2, 1) := dk_28 (dk_at dksX9_setPart_2 4 rfl rfl)
theorem dX9_setPart_51 : decode cX9_setPart 51 = .ok (.iadd, 1) := dk_96 (dk_at dksX9_setPart_2 5 rfl rfl)
theorem dX9_setPart_52 : decode cX9_setPart 52 = .ok (.iaload, 1) := dk_46 (dk_at dksX9_setPart_2 6 rfl rfl)
theorem dX9_setPart_53 : decode cX9_setPart 53 = .ok (.istore 4, 2) := dk_54 4 (dk_at dksX9_setPart_2 7 rfl rfl)
theorem dX9_setPart_55 : decode cX9_setPart 55 = .ok (.aload_n 0, 1) := dk_42 (dk_at dksX9_setPart_2 9 rfl rfl)
theorem dX9_setPart_56 : decode cX9_setPart 56 = .ok (.bipush 8, 2) := dk_16 8 (dk_at dksX9_setPart_2 10 rfl rfl)
theorem dX9_setPart_58 : decode cX9_setPart 58 = .ok (.iload_n 1, 1) := dk_27 (dk_at dksX9_setPart_2 12 rfl rfl)
theorem dX9_setPart_59 : decode cX9_setPart 59 = .ok (.imul, 1) := dk_104 (dk_at dksX9_setPart_2 13 rfl rfl)
theorem dX9_setPart_60 : decode cX9_setPart 60 = .ok (.iload_n 2, 1) := dk_28 (dk_at dksX9_setPart_2 14 rfl rfl)
theorem dX9_setPart_61 : decode cX9_setPart 61 = .ok (.iadd, 1) := dk_96 (dk_at dksX9_setPart_2 15 rfl rfl)
theorem dX9_setPart_62 : decode cX9_setPart 62 = .ok (.iload_n 3, 1) := dk_29 (dk_at dksX9_setPart_2 16 rfl rfl)
theorem dX9_setPart_63 : decode cX9_setPart 63 = .ok (.invokevirtual 185, 3) := dk_182 0 185 (dk_at dksX9_setPart_2 17 rfl rfl)
theorem dX9_setPart_66 : decode cX9_setPart 66 = .ok (.ifCond .ne 9, 3) := dk_154 0 9 (dk_at dksX9_setPart_2 20 rfl rfl)
theorem dX9_setPart_69 : decode cX9_setPart 69 = .ok (.aload_n 0, 1) := dk_42 (dk_at dksX9_setPart_2 23 rfl rfl)
theorem dX9_setPart_70 : decode cX9_setPart 70 = .ok (.iconst 3, 1) := dk_6 (dk_at dksX9_setPart_3 0 rfl rfl)
theorem dX9_setPart_71 : decode cX9_setPart 71 = .ok (.invokevirtual 63, 3) := dk_182 0 63 (dk_at dksX9_setPart_3 1 rfl rfl)
theorem dX9_setPart_74 : decode cX9_setPart 74 = .ok (.ireturn, 1) := dk_172 (dk_at dksX9_setPart_3 4 rfl rfl)
theorem dX9_setPart_75 : decode cX9_setPart 75 = .ok (.aload_n 0, 1) := dk_42 (dk_at dksX9_setPart_3 5 rfl rfl)
theorem dX9_setPart_76 : decode cX9_setPart 76 = .ok (.invokevirtual 75, 3) := dk_182 0 75 (dk_at dksX9_setPart_3 6 rfl rfl)
theorem dX9_setPart_79 : decode cX9_setPart 79 = .ok (.aload_n 0, 1) := dk_42 (dk_at dksX9_setPart_3 9 rfl rfl)
theorem dX9_setPart_80 : decode cX9_setPart 80 = .ok (.invokevirtual 188, 3) := dk_182 0 188 (dk_at dksX9_setPart_3 10 rfl rfl)
theorem dX9_setPart_83 : decode cX9_setPart 83 = .ok (.istore 5, 2) := dk_54 5 (dk_at dksX9_setPart_3 13 rfl rfl)
theorem dX9_setPart_85 : decode cX9_setPart 85 = .ok (.iload 4, 2) := dk_21 4 (dk_at dksX9_setPart_3 15 rfl rfl)
theorem dX9_setPart_87 : decode cX9_setPart 87 = .ok (.ireturn, 1) := dk_172 (dk_at dksX9_setPart_3 17 rfl rfl)
abbrev cX9_canPart : ByteArray := prog_11_method_62_code
def yX9_canPart : MethodName := ⟨RX9, "canPart", "(II)Z"⟩
def dkwX9_canPart_2 : List UInt8 := [3, 62, 132, 4, 1, 167, 255, 223, 29, 172]
abbrev dktX9_canPart_2 : List UInt8 := dkwX9_canPart_2 ++ []
def dkwX9_canPart_1 : List UInt8 := [162, 0, 32, 29, 153, 0, 20, 42, 180, 0, 25, 21, 4, 46, 184, 0, 127, 153, 0, 7, 4, 167, 0, 4]
abbrev dktX9_canPart_1 : List UInt8 := dkwX9_canPart_1 ++ dktX9_canPart_2
def dkwX9_canPart_0 : List UInt8 := [42, 182, 0, 99, 42, 180, 0, 22, 27, 28, 79, 42, 182, 0, 109, 4, 62, 3, 54, 4, 21, 4, 16, 64]
abbrev dktX9_canPart_0 : List UInt8 := dkwX9_canPart_0 ++ dktX9_canPart_1
theorem dksX9_canPart_0 : cX9_canPart.data.toList.drop 0 = dktX9_canPart_0 := by decide +kernel
theorem dksX9_canPart_1 : cX9_canPart.data.toList.drop 24 = dktX9_canPart_1 := dk_seg dksX9_canPart_0 24 rfl rfl
theorem dksX9_canPart_2 : cX9_canPart.data.toList.drop 48 = dktX9_canPart_2 := dk_seg dksX9_canPart_1 24 rfl rfl
theorem dX9_canPart_0 : decode cX9_canPart 0 = .ok (.aload_n 0, 1) := dk_42 (dk_at dksX9_canPart_0 0 rfl rfl)
theorem dX9_canPart_1 : decode cX9_canPart 1 = .ok (.invokevirtual 99, 3) := dk_182 0 99 (dk_at dksX9_canPart_0 1 rfl rfl)
theorem dX9_canPart_4 : decode cX9_canPart 4 = .ok (.aload_n 0, 1) := dk_42 (dk_at dksX9_canPart_0 4 rfl rfl)
theorem dX9_canPart_5 : decode cX9_canPart 5 = .ok (.getfield 22, 3) := dk_180 0 22 (dk_at dksX9_canPart_0 5 rfl rfl)
theorem dX9_canPart_8 : decode cX9_canPart 8 = .ok (.iload_n 1, 1) := dk_27 (dk_at dksX9_canPart_0 8 rfl rfl)
theorem dX9_canPart_9 : decode cX9_canPart 9 = .ok (.iload_n 2, 1) := dk_28 (dk_at dksX9_canPart_0 9 rfl rfl)
theorem dX9_canPart_10 : decode cX9_canPart 10 = .ok (.iastore, 1) := dk_79 (dk_at dksX9_canPart_0 10 rfl rfl)
theorem dX9_canPart_11 : decode cX9_canPart 11 = .ok (.aload_n 0, 1) := dk_42 (dk_at dksX9_canPart_0 11 rfl rfl)
theorem dX9_canPart_12 : decode cX9_canPart 12 = .ok (.invokevirtual 109, 3) := dk_182 0 109 (dk_at dksX9_canPart_0 12 rfl rfl)
theorem dX9_canPart_15 : decode cX9_canPart 15 = .ok (.iconst 1, 1) := dk_4 (dk_at dksX9_canPart_0 15 rfl rfl)
theorem dX9_canPart_16 : decode cX9_canPart 16 = .ok (.istore_n 3, 1) := dk_62 (dk_at dksX9_canPart_0 16 rfl rfl)
theorem dX9_canPart_17 : decode cX9_canPart 17 = .ok (.iconst 0, 1) := dk_3 (dk_at dksX9_canPart_0 17 rfl rfl)
theorem dX9_canPart_18 : decode cX9_canPart 18 = .ok (.istore 4, 2) := dk_54 4 (dk_at dksX9_canPart_0 18 rfl rfl)
theorem dX9_canPart_20 : decode cX9_canPart 20 = .ok (.iload 4, 2) := dk_21 4 (dk_at dksX9_canPart_0 20 rfl rfl)
theorem dX9_canPart_22 : decode cX9_canPart 22 = .ok (.bipush 64, 2) := dk_16 64 (dk_at dksX9_canPart_0 22 rfl rfl)
theorem dX9_canPart_24 : decode cX9_canPart 24 = .ok (.if_icmp .ge 32, 3) := dk_162 0 32 (dk_at dksX9_canPart_1 0 rfl rfl)
theorem dX9_canPart_27 : decode cX9_canPart 27 = .ok (.iload_n 3, 1) := dk_29 (dk_at dksX9_canPart_1 3 rfl rfl)
theorem dX9_canPart_28 : decode cX9_canPart 28 = .ok (.ifCond .eq 20, 3) := dk_153 0 20 (dk_at dksX9_canPart_1 4 rfl rfl)
theorem dX9_canPart_31 : decode cX9_canPart 31 = .ok (.aload_n 0, 1) := dk_42 (dk_at dksX9_canPart_1 7 rfl rfl)
theorem dX9_canPart_32 : decode cX9_canPart 32 = .ok (.getfield 25, 3) := dk_180 0 25 (dk_at dksX9_canPart_1 8 rfl rfl)
theorem dX9_canPart_35 : decode cX9_canPart 35 = .ok (.iload 4, 2) := dk_21 4 (dk_at dksX9_canPart_1 11 rfl rfl)
theorem dX9_canPart_37 : decode cX9_canPart 37 = .ok (.iaload, 1) := dk_46 (dk_at dksX9_canPart_1 13 rfl rfl)
theorem dX9_canPart_38 : decode cX9_canPart 38 = .ok (.invokestatic 127, 3) := dk_184 0 127 (dk_at dksX9_canPart_1 14 rfl rfl)
theorem dX9_canPart_41 : decode cX9_canPart 41 = .ok (.ifCond .eq 7, 3) := dk_153 0 7 (dk_at dksX9_canPart_1 17 rfl rfl)
theorem dX9_canPart_44 : decode cX9_canPart 44 = .ok (.iconst 1, 1) := dk_4 (dk_at dksX9_canPart_1 20 rfl rfl)
theorem dX9_canPart_45 : decode cX9_canPart 45 = .ok (.goto 4, 3) := dk_167 0 4 (dk_at dksX9_canPart_1 21 rfl rfl)
theorem dX9_canPart_48 : decode cX9_canPart 48 = .ok (.iconst 0, 1) := dk_3 (dk_at dksX9_canPart_2 0 rfl rfl)
theorem dX9_canPart_49 : decode cX9_canPart 49 = .ok (.istore_n 3, 1) := dk_62 (dk_at dksX9_canPart_2 1 rfl rfl)
theorem dX9_canPart_50 : decode cX9_canPart 50 = .ok (.iinc 4 1, 3) := dk_132 4 1 (dk_at dksX9_canPart_2 2 rfl rfl)
theorem dX9_canPart_53 : decode cX9_canPart 53 = .ok (.goto (-33), 3) := dk_167 255 223 (dk_at dksX9_canPart_2 5 rfl rfl)
theorem dX9_canPart_56 : decode cX9_canPart 56 = .ok (.iload_n 3, 1) := dk_29 (dk_at dksX9_canPart_2 8 rfl rfl)
theorem dX9_canPart_57 : decode cX9_canPart 57 = .ok (.ireturn, 1) := dk_172 (dk_at dksX9_canPart_2 9 rfl rfl)
abbrev cX9_takeBack : ByteArray := prog_11_method_63_code
def yX9_takeBack : MethodName := ⟨RX9, "takeBack", "()I"⟩
def dkwX9_takeBack_2 : List UInt8 := [132, 2, 1, 167, 255, 212, 27, 172]
abbrev dktX9_takeBack_2 : List UInt8 := dkwX9_takeBack_2 ++ []
def dkwX9_takeBack_1 : List UInt8 := [159, 0, 7, 4, 167, 0, 4, 3, 96, 60, 42, 180, 0, 7, 28, 42, 180, 0, 25, 28, 46, 79]
abbrev dktX9_takeBack_1 : List UInt8 := dkwX9_takeBack_1 ++ dktX9_takeBack_2
def dkwX9_takeBack_0 : List UInt8 := [3, 60, 3, 61, 28, 16, 64, 162, 0, 44, 27, 42, 180, 0, 25, 28, 46, 42, 180, 0, 7, 28, 46]
abbrev dktX9_takeBack_0 : List UInt8 := dkwX9_takeBack_0 ++ dktX9_takeBack_1
theorem dksX9_takeBack_0 : cX9_takeBack.data.toList.drop 0 = dktX9_takeBack_0 := by decide +kernel
theorem dksX9_takeBack_1 : cX9_takeBack.data.toList.drop 23 = dktX9_takeBack_1 := dk_seg dksX9_takeBack_0 23 rfl rfl
theorem dksX9_takeBack_2 : cX9_takeBack.data.toList.drop 45 = dktX9_takeBack_2 := dk_seg dksX9_takeBack_1 22 rfl rfl
theorem dX9_takeBack_0 : decode cX9_takeBack 0 = .ok (.iconst 0, 1) := dk_3 (dk_at dksX9_takeBack_0 0 rfl rfl)
theorem dX9_takeBack_1 : decode cX9_takeBack 1 = .ok (.istore_n 1, 1) := dk_60 (dk_at dksX9_takeBack_0 1 rfl rfl)
theorem dX9_takeBack_2 : decode cX9_takeBack 2 = .ok (.iconst 0, 1) := dk_3 (dk_at dksX9_takeBack_0 2 rfl rfl)
theorem dX9_takeBack_3 : decode cX9_takeBack 3 = .ok (.istore_n 2, 1) := dk_61 (dk_at dksX9_takeBack_0 3 rfl rfl)
theorem dX9_takeBack_4 : decode cX9_takeBack 4 = .ok (.iload_n 2, 1) := dk_28 (dk_at dksX9_takeBack_0 4 rfl rfl)
theorem dX9_takeBack_5 : decode cX9_takeBack 5 = .ok (.bipush 64, 2) := dk_16 64 (dk_at dksX9_takeBack_0 5 rfl rfl)
theorem dX9_takeBack_7 : decode cX9_takeBack 7 = .ok (.if_icmp .ge 44, 3) := dk_162 0 44 (dk_at dksX9_takeBack_0 7 rfl rfl)
theorem dX9_takeBack_10 : decode cX9_takeBack 10 = .ok (.iload_n 1, 1) := dk_27 (dk_at dksX9_takeBack_0 10 rfl rfl)
theorem dX9_takeBack_11 : decode cX9_takeBack 11 = .ok (.aload_n 0, 1) := dk_42 (dk_at dksX9_takeBack_0 11 rfl rfl)
theorem dX9_takeBack_12 : decode cX9_takeBack 12 = .ok (.getfield 25, 3) := dk_180 0 25 (dk_at dksX9_takeBack_0 12 rfl rfl)
theorem dX9_takeBack_15 : decode cX9_takeBack 15 = .ok (.iload_n 2, 1) := dk_28 (dk_at dksX9_takeBack_0 15 rfl rfl)
theorem dX9_takeBack_16 : decode cX9_takeBack 16 = .ok (.iaload, 1) := dk_46 (dk_at dksX9_takeBack_0 16 rfl rfl)
theorem dX9_takeBack_17 : decode cX9_takeBack 17 = .ok (.aload_n 0, 1) := dk_42 (dk_at dksX9_takeBack_0 17 rfl rfl)
theorem dX9_takeBack_18 : decode cX9_takeBack 18 = .ok (.getfield 7, 3) := dk_180 0 7 (dk_at dksX9_takeBack_0 18 rfl rfl)
theorem dX9_takeBack_21 : decode cX9_takeBack 21 = .ok (.iload_n 2, 1) := dk_28 (dk_at dksX9_takeBack_0 21 rfl rfl)
theorem dX9_takeBack_22 : decode cX9_takeBack 22 = .ok (.iaload, 1) := dk_46 (dk_at dksX9_takeBack_0 22 rfl rfl)
theorem dX9_takeBack_23 : decode cX9_takeBack 23 = .ok (.if_icmp .eq 7, 3) := dk_159 0 7 (dk_at dksX9_takeBack_1 0 rfl rfl)
theorem dX9_takeBack_26 : decode cX9_takeBack 26 = .ok (.iconst 1, 1) := dk_4 (dk_at dksX9_takeBack_1 3 rfl rfl)
theorem dX9_takeBack_27 : decode cX9_takeBack 27 = .ok (.goto 4, 3) := dk_167 0 4 (dk_at dksX9_takeBack_1 4 rfl rfl)
theorem dX9_takeBack_30 : decode cX9_takeBack 30 = .ok (.iconst 0, 1) := dk_3 (dk_at dksX9_takeBack_1 7 rfl rfl)
theorem dX9_takeBack_31 : decode cX9_takeBack 31 = .ok (.iadd, 1) := dk_96 (dk_at dksX9_takeBack_1 8 rfl rfl)
theorem dX9_takeBack_32 : decode cX9_takeBack 32 = .ok (.istore_n 1, 1) := dk_60 (dk_at dksX9_takeBack_1 9 rfl rfl)
theorem dX9_takeBack_33 : decode cX9_takeBack 33 = .ok (.aload_n 0, 1) := dk_42 (dk_at dksX9_takeBack_1 10 rfl rfl)
theorem dX9_takeBack_34 : decode cX9_takeBack 34 = .ok (.getfield 7, 3) := dk_180 0 7 (dk_at dksX9_takeBack_1 11 rfl rfl)
theorem dX9_takeBack_37 : decode cX9_takeBack 37 = .ok (.iload_n 2, 1) := dk_28 (dk_at dksX9_takeBack_1 14 rfl rfl)
theorem dX9_takeBack_38 : decode cX9_takeBack 38 = .ok (.aload_n 0, 1) := dk_42 (dk_at dksX9_takeBack_1 15 rfl rfl)
theorem dX9_takeBack_39 : decode cX9_takeBack 39 = .ok (.getfield 25, 3) := dk_180 0 25 (dk_at dksX9_takeBack_1 16 rfl rfl)
theorem dX9_takeBack_42 : decode cX9_takeBack 42 = .ok (.iload_n 2, 1) := dk_28 (dk_at dksX9_takeBack_1 19 rfl rfl)
theorem dX9_takeBack_43 : decode cX9_takeBack 43 = .ok (.iaload, 1) := dk_46 (dk_at dksX9_takeBack_1 20 rfl rfl)
theorem dX9_takeBack_44 : decode cX9_takeBack 44 = .ok (.iastore, 1) := dk_79 (dk_at dksX9_takeBack_1 21 rfl rfl)
theorem dX9_takeBack_45 : decode cX9_takeBack 45 = .ok (.iinc 2 1, 3) := dk_132 2 1 (dk_at dksX9_takeBack_2 0 rfl rfl)
theorem dX9_takeBack_48 : decode cX9_takeBack 48 = .ok (.goto (-44), 3) := dk_167 255 212 (dk_at dksX9_takeBack_2 3 rfl rfl)
theorem dX9_takeBack_51 : decode cX9_takeBack 51 = .ok (.iload_n 1, 1) := dk_27 (dk_at dksX9_takeBack_2 6 rfl rfl)
theorem dX9_takeBack_52 : decode cX9_takeBack 52 = .ok (.ireturn, 1) := dk_172 (dk_at dksX9_takeBack_2 7 rfl rfl)
abbrev cX9_dropCrumbs : ByteArray := prog_11_method_65_code
def yX9_dropCrumbs : MethodName := ⟨RX9, "dropCrumbs", "(I)I"⟩
def dkwX9_dropCrumbs_2 : List UInt8 := [172]
abbrev dktX9_dropCrumbs_2 : List UInt8 := dkwX9_dropCrumbs_2 ++ []
def dkwX9_dropCrumbs_1 : List UInt8 := [28, 154, 0, 9, 42, 5, 182, 0, 63, 172, 42, 182, 0, 75, 42, 182, 0, 118, 42, 182, 0, 188, 62, 28]
abbrev dktX9_dropCrumbs_1 : List UInt8 := dkwX9_dropCrumbs_1 ++ dktX9_dropCrumbs_2
def dkwX9_dropCrumbs_0 : List UInt8 := [42, 3, 181, 0, 52, 27, 184, 0, 127, 154, 0, 9, 42, 4, 182, 0, 63, 172, 42, 27, 182, 0, 115, 61]
abbrev dktX9_dropCrumbs_0 : List UInt8 := dkwX9_dropCrumbs_0 ++ dktX9_dropCrumbs_1
theorem dksX9_dropCrumbs_0 : cX9_dropCrumbs.data.toList.drop 0 = dktX9_dropCrumbs_0 := by decide +kernel
theorem dksX9_dropCrumbs_1 : cX9_dropCrumbs.data.toList.drop 24 = dktX9_dropCrumbs_1 := dk_seg dksX9_dropCrumbs_0 24 rfl rfl
theorem dksX9_dropCrumbs_2 : cX9_dropCrumbs.data.toList.drop 48 = dktX9_dropCrumbs_2 := dk_seg dksX9_dropCrumbs_1 24 rfl rfl
theorem dX9_dropCrumbs_0 : decode cX9_dropCrumbs 0 = .ok (.aload_n 0, 1) := dk_42 (dk_at dksX9_dropCrumbs_0 0 rfl rfl)
theorem dX9_dropCrumbs_1 : decode cX9_dropCrumbs 1 = .ok (.iconst 0, 1) := dk_3 (dk_at dksX9_dropCrumbs_0 1 rfl rfl)
theorem dX9_dropCrumbs_2 : decode cX9_dropCrumbs 2 = .ok (.putfield 52, 3) := dk_181 0 52 (dk_at dksX9_dropCrumbs_0 2 rfl rfl)
theorem dX9_dropCrumbs_5 : decode cX9_dropCrumbs 5 = .ok (.iload_n 1, 1) := dk_27 (dk_at dksX9_dropCrumbs_0 5 rfl rfl)
theorem dX9_dropCrumbs_6 : decode cX9_dropCrumbs 6 = .ok (.invokestatic 127, 3) := dk_184 0 127 (dk_at dksX9_dropCrumbs_0 6 rfl rfl)
theorem dX9_dropCrumbs_9 : decode cX9_dropCrumbs 9 = .ok (.ifCond .ne 9, 3) := dk_154 0 9 (dk_at dksX9_dropCrumbs_0 9 rfl rfl)
theorem dX9_dropCrumbs_12 : decode cX9_dropCrumbs 12 = .ok (.aload_n 0, 1) := dk_42 (dk_at dksX9_dropCrumbs_0 12 rfl rfl)
theorem dX9_dropCrumbs_13 : decode cX9_dropCrumbs 13 = .ok (.iconst 1, 1) := dk_4 (dk_at dksX9_dropCrumbs_0 13 rfl rfl)
theorem dX9_dropCrumbs_14 : decode cX9_dropCrumbs 14 = .ok (.invokevirtual 63, 3) := dk_182 0 63 (dk_at dksX9_dropCrumbs_0 14 rfl rfl)
theorem dX9_dropCrumbs_17 : decode cX9_dropCrumbs 17 = .ok (.ireturn, 1) := dk_172 (dk_at dksX9_dropCrumbs_0 17 rfl rfl)
theorem dX9_dropCrumbs_18 : decode cX9_dropCrumbs 18 = .ok (.aload_n 0, 1) := dk_42 (dk_at dksX9_dropCrumbs_0 18 rfl rfl)
theorem dX9_dropCrumbs_19 : decode cX9_dropCrumbs 19 = .ok (.iload_n 1, 1) := dk_27 (dk_at dksX9_dropCrumbs_0 19 rfl rfl)
theorem dX9_dropCrumbs_20 : decode cX9_dropCrumbs 20 = .ok (.invokevirtual 115, 3) := dk_182 0 115 (dk_at dksX9_dropCrumbs_0 20 rfl rfl)
theorem dX9_dropCrumbs_23 : decode cX9_dropCrumbs 23 = .ok (.istore_n 2, 1) := dk_61 (dk_at dksX9_dropCrumbs_0 23 rfl rfl)
theorem dX9_dropCrumbs_24 : decode cX9_dropCrumbs 24 = .ok (.iload_n 2, 1) := dk_28 (dk_at dksX9_dropCrumbs_1 0 rfl rfl)
theorem dX9_dropCrumbs_25 : decode cX9_dropCrumbs 25 = .ok (.ifCond .ne 9, 3) := dk_154 0 9 (dk_at dksX9_dropCrumbs_1 1 rfl rfl)
theorem dX9_dropCrumbs_28 : decode cX9_dropCrumbs 28 = .ok (.aload_n 0, 1) := dk_42 (dk_at dksX9_dropCrumbs_1 4 rfl rfl)
theorem dX9_dropCrumbs_29 : decode cX9_dropCrumbs 29 = .ok (.iconst 2, 1) := dk_5 (dk_at dksX9_dropCrumbs_1 5 rfl rfl)
theorem dX9_dropCrumbs_30 : decode cX9_dropCrumbs 30 = .ok (.invokevirtual 63, 3) := dk_182 0 63 (dk_at dksX9_dropCrumbs_1 6 rfl rfl)
theorem dX9_dropCrumbs_33 : decode cX9_dropCrumbs 33 = .ok (.ireturn, 1) := dk_172 (dk_at dksX9_dropCrumbs_1 9 rfl rfl)
theorem dX9_dropCrumbs_34 : decode cX9_dropCrumbs 34 = .ok (.aload_n 0, 1) := dk_42 (dk_at dksX9_dropCrumbs_1 10 rfl rfl)
theorem dX9_dropCrumbs_35 : decode cX9_dropCrumbs 35 = .ok (.invokevirtual 75, 3) := dk_182 0 75 (dk_at dksX9_dropCrumbs_1 11 rfl rfl)
theorem dX9_dropCrumbs_38 : decode cX9_dropCrumbs 38 = .ok (.aload_n 0, 1) := dk_42 (dk_at dksX9_dropCrumbs_1 14 rfl rfl)
theorem dX9_dropCrumbs_39 : decode cX9_dropCrumbs 39 = .ok (.invokevirtual 118, 3) := dk_182 0 118 (dk_at dksX9_dropCrumbs_1 15 rfl rfl)
theorem dX9_dropCrumbs_42 : decode cX9_dropCrumbs 42 = .ok (.aload_n 0, 1) := dk_42 (dk_at dksX9_dropCrumbs_1 18 rfl rfl)
theorem dX9_dropCrumbs_43 : decode cX9_dropCrumbs 43 = .ok (.invokevirtual 188, 3) := dk_182 0 188 (dk_at dksX9_dropCrumbs_1 19 rfl rfl)
theorem dX9_dropCrumbs_46 : decode cX9_dropCrumbs 46 = .ok (.istore_n 3, 1) := dk_62 (dk_at dksX9_dropCrumbs_1 22 rfl rfl)
theorem dX9_dropCrumbs_47 : decode cX9_dropCrumbs 47 = .ok (.iload_n 2, 1) := dk_28 (dk_at dksX9_dropCrumbs_1 23 rfl rfl)
theorem dX9_dropCrumbs_48 : decode cX9_dropCrumbs 48 = .ok (.ireturn, 1) := dk_172 (dk_at dksX9_dropCrumbs_2 0 rfl rfl)
abbrev cX9_setLevels : ByteArray := prog_11_method_66_code
def yX9_setLevels : MethodName := ⟨RX9, "setLevels", "(I)I"⟩
def dkwX9_setLevels_1 : List UInt8 := [42, 180, 0, 7, 16, 64, 46, 61, 42, 180, 0, 7, 16, 64, 27, 79, 28, 172]
abbrev dktX9_setLevels_1 : List UInt8 := dkwX9_setLevels_1 ++ []
def dkwX9_setLevels_0 : List UInt8 := [42, 3, 181, 0, 52, 27, 4, 6, 184, 0, 56, 154, 0, 9, 42, 4, 182, 0, 63, 172, 42, 182, 0, 75]
abbrev dktX9_setLevels_0 : List UInt8 := dkwX9_setLevels_0 ++ dktX9_setLevels_1
theorem dksX9_setLevels_0 : cX9_setLevels.data.toList.drop 0 = dktX9_setLevels_0 := by decide +kernel
theorem dksX9_setLevels_1 : cX9_setLevels.data.toList.drop 24 = dktX9_setLevels_1 := dk_seg dksX9_setLevels_0 24 rfl rfl
theorem dX9_setLevels_0 : decode cX9_setLevels 0 = .ok (.aload_n 0, 1) := dk_42 (dk_at dksX9_setLevels_0 0 rfl rfl)
theorem dX9_setLevels_1 : decode cX9_setLevels 1 = .ok (.iconst 0, 1) := dk_3 (dk_at dksX9_setLevels_0 1 rfl rfl)
theorem dX9_setLevels_2 : decode cX9_setLevels 2 = .ok (.putfield 52, 3) := dk_181 0 52 (dk_at dksX9_setLevels_0 2 rfl rfl)
theorem dX9_setLevels_5 : decode cX9_setLevels 5 = .ok (.iload_n 1, 1) := dk_27 (dk_at dksX9_setLevels_0 5 rfl rfl)
theorem dX9_setLevels_6 : decode cX9_setLevels 6 = .ok (.iconst 1, 1) := dk_4 (dk_at dksX9_setLevels_0 6 rfl rfl)
theorem dX9_setLevels_7 : decode cX9_setLevels 7 = .ok (.iconst 3, 1) := dk_6 (dk_at dksX9_setLevels_0 7 rfl rfl)
theorem dX9_setLevels_8 : decode cX9_setLevels 8 = .ok (.invokestatic 56, 3) := dk_184 0 56 (dk_at dksX9_setLevels_0 8 rfl rfl)
theorem dX9_setLevels_11 : decode cX9_setLevels 11 = .ok (.ifCond .ne 9, 3) := dk_154 0 9 (dk_at dksX9_setLevels_0 11 rfl rfl)
theorem dX9_setLevels_14 : decode cX9_setLevels 14 = .ok (.aload_n 0, 1) := dk_42 (dk_at dksX9_setLevels_0 14 rfl rfl)
theorem dX9_setLevels_15 : decode cX9_setLevels 15 = .ok (.iconst 1, 1) := dk_4 (dk_at dksX9_setLevels_0 15 rfl rfl)
theorem dX9_setLevels_16 : decode cX9_setLevels 16 = .ok (.invokevirtual 63, 3) := dk_182 0 63 (dk_at dksX9_setLevels_0 16 rfl rfl)
theorem dX9_setLevels_19 : decode cX9_setLevels 19 = .ok (.ireturn, 1) := dk_172 (dk_at dksX9_setLevels_0 19 rfl rfl)
theorem dX9_setLevels_20 : decode cX9_setLevels 20 = .ok (.aload_n 0, 1) := dk_42 (dk_at dksX9_setLevels_0 20 rfl rfl)
theorem dX9_setLevels_21 : decode cX9_setLevels 21 = .ok (.invokevirtual 75, 3) := dk_182 0 75 (dk_at dksX9_setLevels_0 21 rfl rfl)
theorem dX9_setLevels_24 : decode cX9_setLevels 24 = .ok (.aload_n 0, 1) := dk_42 (dk_at dksX9_setLevels_1 0 rfl rfl)
theorem dX9_setLevels_25 : decode cX9_setLevels 25 = .ok (.getfield 7, 3) := dk_180 0 7 (dk_at dksX9_setLevels_1 1 rfl rfl)
theorem dX9_setLevels_28 : decode cX9_setLevels 28 = .ok (.bipush 64, 2) := dk_16 64 (dk_at dksX9_setLevels_1 4 rfl rfl)
theorem dX9_setLevels_30 : decode cX9_setLevels 30 = .ok (.iaload, 1) := dk_46 (dk_at dksX9_setLevels_1 6 rfl rfl)
theorem dX9_setLevels_31 : decode cX9_setLevels 31 = .ok (.istore_n 2, 1) := dk_61 (dk_at dksX9_setLevels_1 7 rfl rfl)
theorem dX9_setLevels_32 : decode cX9_setLevels 32 = .ok (.aload_n 0, 1) := dk_42 (dk_at dksX9_setLevels_1 8 rfl rfl)
theorem dX9_setLevels_33 : decode cX9_setLevels 33 = .ok (.getfield 7, 3) := dk_180 0 7 (dk_at dksX9_setLevels_1 9 rfl rfl)
theorem dX9_setLevels_36 : decode cX9_setLevels 36 = .ok (.bipush 64, 2) := dk_16 64 (dk_at dksX9_setLevels_1 12 rfl rfl)
theorem dX9_setLevels_38 : decode cX9_setLevels 38 = .ok (.iload_n 1, 1) := dk_27 (dk_at dksX9_setLevels_1 14 rfl rfl)
theorem dX9_setLevels_39 : decode cX9_setLevels 39 = .ok (.iastore, 1) := dk_79 (dk_at dksX9_setLevels_1 15 rfl rfl)
theorem dX9_setLevels_40 : decode cX9_setLevels 40 = .ok (.iload_n 2, 1) := dk_28 (dk_at dksX9_setLevels_1 16 rfl rfl)
theorem dX9_setLevels_41 : decode cX9_setLevels 41 = .ok (.ireturn, 1) := dk_172 (dk_at dksX9_setLevels_1 17 rfl rfl)
abbrev cX9_turnRight : ByteArray := prog_11_method_70_code
def yX9_turnRight : MethodName := ⟨RX9, "turnRight", "()I"⟩
def dkwX9_turnRight_0 : List UInt8 := [42, 3, 181, 0, 52, 42, 182, 0, 75, 42, 182, 0, 191, 172]
abbrev dktX9_turnRight_0 : List UInt8 := dkwX9_turnRight_0 ++ []
theorem dksX9_turnRight_0 : cX9_turnRight.data.toList.drop 0 = dktX9_turnRight_0 := by decide +kernel
theorem dX9_turnRight_0 : decode cX9_turnRight 0 = .ok (.aload_n 0, 1) := dk_42 (dk_at dksX9_turnRight_0 0 rfl rfl)
theorem dX9_turnRight_1 : decode cX9_turnRight 1 = .ok (.iconst 0, 1) := dk_3 (dk_at dksX9_turnRight_0 1 rfl rfl)
theorem dX9_turnRight_2 : decode cX9_turnRight 2 = .ok (.putfield 52, 3) := dk_181 0 52 (dk_at dksX9_turnRight_0 2 rfl rfl)
theorem dX9_turnRight_5 : decode cX9_turnRight 5 = .ok (.aload_n 0, 1) := dk_42 (dk_at dksX9_turnRight_0 5 rfl rfl)
theorem dX9_turnRight_6 : decode cX9_turnRight 6 = .ok (.invokevirtual 75, 3) := dk_182 0 75 (dk_at dksX9_turnRight_0 6 rfl rfl)
theorem dX9_turnRight_9 : decode cX9_turnRight 9 = .ok (.aload_n 0, 1) := dk_42 (dk_at dksX9_turnRight_0 9 rfl rfl)
theorem dX9_turnRight_10 : decode cX9_turnRight 10 = .ok (.invokevirtual 191, 3) := dk_182 0 191 (dk_at dksX9_turnRight_0 10 rfl rfl)
theorem dX9_turnRight_13 : decode cX9_turnRight 13 = .ok (.ireturn, 1) := dk_172 (dk_at dksX9_turnRight_0 13 rfl rfl)
abbrev cX9_doTurn : ByteArray := prog_11_method_67_code
def yX9_doTurn : MethodName := ⟨RX9, "doTurn", "()I"⟩
def dkwX9_doTurn_1 : List UInt8 := [112, 100, 104, 27, 16, 8, 108, 96, 46, 79, 132, 1, 1, 167, 255, 221, 42, 182, 0, 188, 172]
abbrev dktX9_doTurn_1 : List UInt8 := dkwX9_doTurn_1 ++ []
def dkwX9_doTurn_0 : List UInt8 := [3, 60, 27, 16, 64, 162, 0, 35, 42, 180, 0, 25, 27, 42, 180, 0, 7, 16, 8, 16, 7, 27, 16, 8]
abbrev dktX9_doTurn_0 : List UInt8 := dkwX9_doTurn_0 ++ dktX9_doTurn_1
theorem dksX9_doTurn_0 : cX9_doTurn.data.toList.drop 0 = dktX9_doTurn_0 := by decide +kernel
theorem dksX9_doTurn_1 : cX9_doTurn.data.toList.drop 24 = dktX9_doTurn_1 := dk_seg dksX9_doTurn_0 24 rfl rfl
theorem dX9_doTurn_0 : decode cX9_doTurn 0 = .ok (.iconst 0, 1) := dk_3 (dk_at dksX9_doTurn_0 0 rfl rfl)
theorem dX9_doTurn_1 : decode cX9_doTurn 1 = .ok (.istore_n 1, 1) := dk_60 (dk_at dksX9_doTurn_0 1 rfl rfl)
theorem dX9_doTurn_2 : decode cX9_doTurn 2 = .ok (.iload_n 1, 1) := dk_27 (dk_at dksX9_doTurn_0 2 rfl rfl)
theorem dX9_doTurn_3 : decode cX9_doTurn 3 = .ok (.bipush 64, 2) := dk_16 64 (dk_at dksX9_doTurn_0 3 rfl rfl)
theorem dX9_doTurn_5 : decode cX9_doTurn 5 = .ok (.if_icmp .ge 35, 3) := dk_162 0 35 (dk_at dksX9_doTurn_0 5 rfl rfl)
theorem dX9_doTurn_8 : decode cX9_doTurn 8 = .ok (.aload_n 0, 1) := dk_42 (dk_at dksX9_doTurn_0 8 rfl rfl)
theorem dX9_doTurn_9 : decode cX9_doTurn 9 = .ok (.getfield 25, 3) := dk_180 0 25 (dk_at dksX9_doTurn_0 9 rfl rfl)
theorem dX9_doTurn_12 : decode cX9_doTurn 12 = .ok (.iload_n 1, 1) := dk_27 (dk_at dksX9_doTurn_0 12 rfl rfl)
theorem dX9_doTurn_13 : decode cX9_doTurn 13 = .ok (.aload_n 0, 1) := dk_42 (dk_at dksX9_doTurn_0 13 rfl rfl)
theorem dX9_doTurn_14 : decode cX9_doTurn 14 = .ok (.getfield 7, 3) := dk_180 0 7 (dk_at dksX9_doTurn_0 14 rfl rfl)
theorem dX9_doTurn_17 : decode cX9_doTurn 17 = .ok (.bipush 8, 2) := dk_16 8 (dk_at dksX9_doTurn_0 17 rfl rfl)
theorem dX9_doTurn_19 : decode cX9_doTurn 19 = .ok (.bipush 7, 2) := dk_16 7 (dk_at dksX9_doTurn_0 19 rfl rfl)
theorem dX9_doTurn_21 : decode cX9_doTurn 21 = .ok (.iload_n 1, 1) := dk_27 (dk_at dksX9_doTurn_0 21 rfl rfl)
theorem dX9_doTurn_22 : decode cX9_doTurn 22 = .ok (.bipush 8, 2) := dk_16 8 (dk_at dksX9_doTurn_0 22 rfl rfl)
theorem dX9_doTurn_24 : decode cX9_doTurn 24 = .ok (.irem, 1) := dk_112 (dk_at dksX9_doTurn_1 0 rfl rfl)
theorem dX9_doTurn_25 : decode cX9_doTurn 25 = .ok (.isub, 1) := dk_100 (dk_at dksX9_doTurn_1 1 rfl rfl)
theorem dX9_doTurn_26 : decode cX9_doTurn 26 = .ok (.imul, 1) := dk_104 (dk_at dksX9_doTurn_1 2 rfl rfl)
theorem dX9_doTurn_27 : decode cX9_doTurn 27 = .ok (.iload_n 1, 1) := dk_27 (dk_at dksX9_doTurn_1 3 rfl rfl)
theorem dX9_doTurn_28 : decode cX9_doTurn 28 = .ok (.bipush 8, 2) := dk_16 8 (dk_at dksX9_doTurn_1 4 rfl rfl)
theorem dX9_doTurn_30 : decode cX9_doTurn 30 = .ok (.idiv, 1) := dk_108 (dk_at dksX9_doTurn_1 6 rfl rfl)
theorem dX9_doTurn_31 : decode cX9_doTurn 31 = .ok (.iadd, 1) := dk_96 (dk_at dksX9_doTurn_1 7 rfl rfl)
theorem dX9_doTurn_32 : decode cX9_doTurn 32 = .ok (.iaload, 1) := dk_46 (dk_at dksX9_doTurn_1 8 rfl rfl)
theorem dX9_doTurn_33 : decode cX9_doTurn 33 = .ok (.iastore, 1) := dk_79 (dk_at dksX9_doTurn_1 9 rfl rfl)
theorem dX9_doTurn_34 : decode cX9_doTurn 34 = .ok (.iinc 1 1, 3) := dk_132 1 1 (dk_at dksX9_doTurn_1 10 rfl rfl)
theorem dX9_doTurn_37 : decode cX9_doTurn 37 = .ok (.goto (-35), 3) := dk_167 255 221 (dk_at dksX9_doTurn_1 13 rfl rfl)
theorem dX9_doTurn_40 : decode cX9_doTurn 40 = .ok (.aload_n 0, 1) := dk_42 (dk_at dksX9_doTurn_1 16 rfl rfl)
theorem dX9_doTurn_41 : decode cX9_doTurn 41 = .ok (.invokevirtual 188, 3) := dk_182 0 188 (dk_at dksX9_doTurn_1 17 rfl rfl)
theorem dX9_doTurn_44 : decode cX9_doTurn 44 = .ok (.ireturn, 1) := dk_172 (dk_at dksX9_doTurn_1 20 rfl rfl)
abbrev cX9_mirror : ByteArray := prog_11_method_71_code
def yX9_mirror : MethodName := ⟨RX9, "mirror", "()I"⟩
def dkwX9_mirror_0 : List UInt8 := [42, 3, 181, 0, 52, 42, 182, 0, 75, 42, 182, 0, 194, 172]
abbrev dktX9_mirror_0 : List UInt8 := dkwX9_mirror_0 ++ []
theorem dksX9_mirror_0 : cX9_mirror.data.toList.drop 0 = dktX9_mirror_0 := by decide +kernel
theorem dX9_mirror_0 : decode cX9_mirror 0 = .ok (.aload_n 0, 1) := dk_42 (dk_at dksX9_mirror_0 0 rfl rfl)
theorem dX9_mirror_1 : decode cX9_mirror 1 = .ok (.iconst 0, 1) := dk_3 (dk_at dksX9_mirror_0 1 rfl rfl)
theorem dX9_mirror_2 : decode cX9_mirror 2 = .ok (.putfield 52, 3) := dk_181 0 52 (dk_at dksX9_mirror_0 2 rfl rfl)
theorem dX9_mirror_5 : decode cX9_mirror 5 = .ok (.aload_n 0, 1) := dk_42 (dk_at dksX9_mirror_0 5 rfl rfl)
theorem dX9_mirror_6 : decode cX9_mirror 6 = .ok (.invokevirtual 75, 3) := dk_182 0 75 (dk_at dksX9_mirror_0 6 rfl rfl)
theorem dX9_mirror_9 : decode cX9_mirror 9 = .ok (.aload_n 0, 1) := dk_42 (dk_at dksX9_mirror_0 9 rfl rfl)
theorem dX9_mirror_10 : decode cX9_mirror 10 = .ok (.invokevirtual 194, 3) := dk_182 0 194 (dk_at dksX9_mirror_0 10 rfl rfl)
theorem dX9_mirror_13 : decode cX9_mirror 13 = .ok (.ireturn, 1) := dk_172 (dk_at dksX9_mirror_0 13 rfl rfl)
abbrev cX9_doMirror : ByteArray := prog_11_method_68_code
def yX9_doMirror : MethodName := ⟨RX9, "doMirror", "()I"⟩
def dkwX9_doMirror_1 : List UInt8 := [16, 8, 96, 4, 100, 27, 16, 8, 112, 100, 46, 79, 132, 1, 1, 167, 255, 219, 42, 182, 0, 188, 172]
abbrev dktX9_doMirror_1 : List UInt8 := dkwX9_doMirror_1 ++ []
def dkwX9_doMirror_0 : List UInt8 := [3, 60, 27, 16, 64, 162, 0, 37, 42, 180, 0, 25, 27, 42, 180, 0, 7, 16, 8, 27, 16, 8, 108, 104]
abbrev dktX9_doMirror_0 : List UInt8 := dkwX9_doMirror_0 ++ dktX9_doMirror_1
theorem dksX9_doMirror_0 : cX9_doMirror.data.toList.drop 0 = dktX9_doMirror_0 := by decide +kernel
theorem dksX9_doMirror_1 : cX9_doMirror.data.toList.drop 24 = dktX9_doMirror_1 := dk_seg dksX9_doMirror_0 24 rfl rfl
theorem dX9_doMirror_0 : decode cX9_doMirror 0 = .ok (.iconst 0, 1) := dk_3 (dk_at dksX9_doMirror_0 0 rfl rfl)
theorem dX9_doMirror_1 : decode cX9_doMirror 1 = .ok (.istore_n 1, 1) := dk_60 (dk_at dksX9_doMirror_0 1 rfl rfl)
theorem dX9_doMirror_2 : decode cX9_doMirror 2 = .ok (.iload_n 1, 1) := dk_27 (dk_at dksX9_doMirror_0 2 rfl rfl)
theorem dX9_doMirror_3 : decode cX9_doMirror 3 = .ok (.bipush 64, 2) := dk_16 64 (dk_at dksX9_doMirror_0 3 rfl rfl)
theorem dX9_doMirror_5 : decode cX9_doMirror 5 = .ok (.if_icmp .ge 37, 3) := dk_162 0 37 (dk_at dksX9_doMirror_0 5 rfl rfl)
theorem dX9_doMirror_8 : decode cX9_doMirror 8 = .ok (.aload_n 0, 1) := dk_42 (dk_at dksX9_doMirror_0 8 rfl rfl)
theorem dX9_doMirror_9 : decode cX9_doMirror 9 = .ok (.getfield 25, 3) := dk_180 0 25 (dk_at dksX9_doMirror_0 9 rfl rfl)
theorem dX9_doMirror_12 : decode cX9_doMirror 12 = .ok (.iload_n 1, 1) := dk_27 (dk_at dksX9_doMirror_0 12 rfl rfl)
theorem dX9_doMirror_13 : decode cX9_doMirror 13 = .ok (.aload_n 0, 1) := dk_42 (dk_at dksX9_doMirror_0 13 rfl rfl)
theorem dX9_doMirror_14 : decode cX9_doMirror 14 = .ok (.getfield 7, 3) := dk_180 0 7 (dk_at dksX9_doMirror_0 14 rfl rfl)
theorem dX9_doMirror_17 : decode cX9_doMirror 17 = .ok (.bipush 8, 2) := dk_16 8 (dk_at dksX9_doMirror_0 17 rfl rfl)
theorem dX9_doMirror_19 : decode cX9_doMirror 19 = .ok (.iload_n 1, 1) := dk_27 (dk_at dksX9_doMirror_0 19 rfl rfl)
theorem dX9_doMirror_20 : decode cX9_doMirror 20 = .ok (.bipush 8, 2) := dk_16 8 (dk_at dksX9_doMirror_0 20 rfl rfl)
theorem dX9_doMirror_22 : decode cX9_doMirror 22 = .ok (.idiv, 1) := dk_108 (dk_at dksX9_doMirror_0 22 rfl rfl)
theorem dX9_doMirror_23 : decode cX9_doMirror 23 = .ok (.imul, 1) := dk_104 (dk_at dksX9_doMirror_0 23 rfl rfl)
theorem dX9_doMirror_24 : decode cX9_doMirror 24 = .ok (.bipush 8, 2) := dk_16 8 (dk_at dksX9_doMirror_1 0 rfl rfl)
theorem dX9_doMirror_26 : decode cX9_doMirror 26 = .ok (.iadd, 1) := dk_96 (dk_at dksX9_doMirror_1 2 rfl rfl)
theorem dX9_doMirror_27 : decode cX9_doMirror 27 = .ok (.iconst 1, 1) := dk_4 (dk_at dksX9_doMirror_1 3 rfl rfl)
theorem dX9_doMirror_28 : decode cX9_doMirror 28 = .ok (.isub, 1) := dk_100 (dk_at dksX9_doMirror_1 4 rfl rfl)
theorem dX9_doMirror_29 : decode cX9_doMirror 29 = .ok (.iload_n 1, 1) := dk_27 (dk_at dksX9_doMirror_1 5 rfl rfl)
theorem dX9_doMirror_30 : decode cX9_doMirror 30 = .ok (.bipush 8, 2) := dk_16 8 (dk_at dksX9_doMirror_1 6 rfl rfl)
theorem dX9_doMirror_32 : decode cX9_doMirror 32 = .ok (.irem, 1) := dk_112 (dk_at dksX9_doMirror_1 8 rfl rfl)
theorem dX9_doMirror_33 : decode cX9_doMirror 33 = .ok (.isub, 1) := dk_100 (dk_at dksX9_doMirror_1 9 rfl rfl)
theorem dX9_doMirror_34 : decode cX9_doMirror 34 = .ok (.iaload, 1) := dk_46 (dk_at dksX9_doMirror_1 10 rfl rfl)
theorem dX9_doMirror_35 : decode cX9_doMirror 35 = .ok (.iastore, 1) := dk_79 (dk_at dksX9_doMirror_1 11 rfl rfl)
theorem dX9_doMirror_36 : decode cX9_doMirror 36 = .ok (.iinc 1 1, 3) := dk_132 1 1 (dk_at dksX9_doMirror_1 12 rfl rfl)
theorem dX9_doMirror_39 : decode cX9_doMirror 39 = .ok (.goto (-37), 3) := dk_167 255 219 (dk_at dksX9_doMirror_1 15 rfl rfl)
theorem dX9_doMirror_42 : decode cX9_doMirror 42 = .ok (.aload_n 0, 1) := dk_42 (dk_at dksX9_doMirror_1 18 rfl rfl)
theorem dX9_doMirror_43 : decode cX9_doMirror 43 = .ok (.invokevirtual 188, 3) := dk_182 0 188 (dk_at dksX9_doMirror_1 19 rfl rfl)
theorem dX9_doMirror_46 : decode cX9_doMirror 46 = .ok (.ireturn, 1) := dk_172 (dk_at dksX9_doMirror_1 22 rfl rfl)
abbrev cX9_invert : ByteArray := prog_11_method_72_code
def yX9_invert : MethodName := ⟨RX9, "invert", "()I"⟩
def dkwX9_invert_0 : List UInt8 := [42, 3, 181, 0, 52, 42, 182, 0, 75, 42, 182, 0, 197, 42, 182, 0, 71, 172]
abbrev dktX9_invert_0 : List UInt8 := dkwX9_invert_0 ++ []
theorem dksX9_invert_0 : cX9_invert.data.toList.drop 0 = dktX9_invert_0 := by decide +kernel
theorem dX9_invert_0 : decode cX9_invert 0 = .ok (.aload_n 0, 1) := dk_42 (dk_at dksX9_invert_0 0 rfl rfl)
theorem dX9_invert_1 : decode cX9_invert 1 = .ok (.iconst 0, 1) := dk_3 (dk_at dksX9_invert_0 1 rfl rfl)
theorem dX9_invert_2 : decode cX9_invert 2 = .ok (.putfield 52, 3) := dk_181 0 52 (dk_at dksX9_invert_0 2 rfl rfl)
theorem dX9_invert_5 : decode cX9_invert 5 = .ok (.aload_n 0, 1) := dk_42 (dk_at dksX9_invert_0 5 rfl rfl)
theorem dX9_invert_6 : decode cX9_invert 6 = .ok (.invokevirtual 75, 3) := dk_182 0 75 (dk_at dksX9_invert_0 6 rfl rfl)
theorem dX9_invert_9 : decode cX9_invert 9 = .ok (.aload_n 0, 1) := dk_42 (dk_at dksX9_invert_0 9 rfl rfl)
theorem dX9_invert_10 : decode cX9_invert 10 = .ok (.invokevirtual 197, 3) := dk_182 0 197 (dk_at dksX9_invert_0 10 rfl rfl)
theorem dX9_invert_13 : decode cX9_invert 13 = .ok (.aload_n 0, 1) := dk_42 (dk_at dksX9_invert_0 13 rfl rfl)
theorem dX9_invert_14 : decode cX9_invert 14 = .ok (.invokevirtual 71, 3) := dk_182 0 71 (dk_at dksX9_invert_0 14 rfl rfl)
theorem dX9_invert_17 : decode cX9_invert 17 = .ok (.ireturn, 1) := dk_172 (dk_at dksX9_invert_0 17 rfl rfl)
abbrev cX9_doInvert : ByteArray := prog_11_method_69_code
def yX9_doInvert : MethodName := ⟨RX9, "doInvert", "()V"⟩
def dkwX9_doInvert_1 : List UInt8 := [132, 1, 1, 167, 255, 231, 177]
abbrev dktX9_doInvert_1 : List UInt8 := dkwX9_doInvert_1 ++ []
def dkwX9_doInvert_0 : List UInt8 := [3, 60, 27, 16, 64, 162, 0, 25, 42, 180, 0, 7, 27, 17, 0, 255, 42, 180, 0, 7, 27, 46, 100, 79]
abbrev dktX9_doInvert_0 : List UInt8 := dkwX9_doInvert_0 ++ dktX9_doInvert_1
theorem dksX9_doInvert_0 : cX9_doInvert.data.toList.drop 0 = dktX9_doInvert_0 := by decide +kernel
theorem dksX9_doInvert_1 : cX9_doInvert.data.toList.drop 24 = dktX9_doInvert_1 := dk_seg dksX9_doInvert_0 24 rfl rfl
theorem dX9_doInvert_0 : decode cX9_doInvert 0 = .ok (.iconst 0, 1) := dk_3 (dk_at dksX9_doInvert_0 0 rfl rfl)
theorem dX9_doInvert_1 : decode cX9_doInvert 1 = .ok (.istore_n 1, 1) := dk_60 (dk_at dksX9_doInvert_0 1 rfl rfl)
theorem dX9_doInvert_2 : decode cX9_doInvert 2 = .ok (.iload_n 1, 1) := dk_27 (dk_at dksX9_doInvert_0 2 rfl rfl)
theorem dX9_doInvert_3 : decode cX9_doInvert 3 = .ok (.bipush 64, 2) := dk_16 64 (dk_at dksX9_doInvert_0 3 rfl rfl)
theorem dX9_doInvert_5 : decode cX9_doInvert 5 = .ok (.if_icmp .ge 25, 3) := dk_162 0 25 (dk_at dksX9_doInvert_0 5 rfl rfl)
theorem dX9_doInvert_8 : decode cX9_doInvert 8 = .ok (.aload_n 0, 1) := dk_42 (dk_at dksX9_doInvert_0 8 rfl rfl)
theorem dX9_doInvert_9 : decode cX9_doInvert 9 = .ok (.getfield 7, 3) := dk_180 0 7 (dk_at dksX9_doInvert_0 9 rfl rfl)
theorem dX9_doInvert_12 : decode cX9_doInvert 12 = .ok (.iload_n 1, 1) := dk_27 (dk_at dksX9_doInvert_0 12 rfl rfl)
theorem dX9_doInvert_13 : decode cX9_doInvert 13 = .ok (.sipush 255, 3) := dk_17 0 255 (dk_at dksX9_doInvert_0 13 rfl rfl)
theorem dX9_doInvert_16 : decode cX9_doInvert 16 = .ok (.aload_n 0, 1) := dk_42 (dk_at dksX9_doInvert_0 16 rfl rfl)
theorem dX9_doInvert_17 : decode cX9_doInvert 17 = .ok (.getfield 7, 3) := dk_180 0 7 (dk_at dksX9_doInvert_0 17 rfl rfl)
theorem dX9_doInvert_20 : decode cX9_doInvert 20 = .ok (.iload_n 1, 1) := dk_27 (dk_at dksX9_doInvert_0 20 rfl rfl)
theorem dX9_doInvert_21 : decode cX9_doInvert 21 = .ok (.iaload, 1) := dk_46 (dk_at dksX9_doInvert_0 21 rfl rfl)
theorem dX9_doInvert_22 : decode cX9_doInvert 22 = .ok (.isub, 1) := dk_100 (dk_at dksX9_doInvert_0 22 rfl rfl)
theorem dX9_doInvert_23 : decode cX9_doInvert 23 = .ok (.iastore, 1) := dk_79 (dk_at dksX9_doInvert_0 23 rfl rfl)
theorem dX9_doInvert_24 : decode cX9_doInvert 24 = .ok (.iinc 1 1, 3) := dk_132 1 1 (dk_at dksX9_doInvert_1 0 rfl rfl)
theorem dX9_doInvert_27 : decode cX9_doInvert 27 = .ok (.goto (-25), 3) := dk_167 255 231 (dk_at dksX9_doInvert_1 3 rfl rfl)
theorem dX9_doInvert_30 : decode cX9_doInvert 30 = .ok (.return_, 1) := dk_177 (dk_at dksX9_doInvert_1 6 rfl rfl)
abbrev cX9_shade : ByteArray := prog_11_method_73_code
def yX9_shade : MethodName := ⟨RX9, "shade", "(II)I"⟩
def dkwX9_shade_1 : List UInt8 := [167, 0, 8, 42, 4, 182, 0, 63, 172]
abbrev dktX9_shade_1 : List UInt8 := dkwX9_shade_1 ++ []
def dkwX9_shade_0 : List UInt8 := [42, 3, 181, 0, 52, 27, 28, 184, 0, 146, 153, 0, 17, 42, 180, 0, 7, 16, 8, 27, 104, 28, 96, 46]
abbrev dktX9_shade_0 : List UInt8 := dkwX9_shade_0 ++ dktX9_shade_1
theorem dksX9_shade_0 : cX9_shade.data.toList.drop 0 = dktX9_shade_0 := by decide +kernel
theorem dksX9_shade_1 : cX9_shade.data.toList.drop 24 = dktX9_shade_1 := dk_seg dksX9_shade_0 24 rfl rfl
theorem dX9_shade_0 : decode cX9_shade 0 = .ok (.aload_n 0, 1) := dk_42 (dk_at dksX9_shade_0 0 rfl rfl)
theorem dX9_shade_1 : decode cX9_shade 1 = .ok (.iconst 0, 1) := dk_3 (dk_at dksX9_shade_0 1 rfl rfl)
theorem dX9_shade_2 : decode cX9_shade 2 = .ok (.putfield 52, 3) := dk_181 0 52 (dk_at dksX9_shade_0 2 rfl rfl)
theorem dX9_shade_5 : decode cX9_shade 5 = .ok (.iload_n 1, 1) := dk_27 (dk_at dksX9_shade_0 5 rfl rfl)
theorem dX9_shade_6 : decode cX9_shade 6 = .ok (.iload_n 2, 1) := dk_28 (dk_at dksX9_shade_0 6 rfl rfl)
theorem dX9_shade_7 : decode cX9_shade 7 = .ok (.invokestatic 146, 3) := dk_184 0 146 (dk_at dksX9_shade_0 7 rfl rfl)
theorem dX9_shade_10 : decode cX9_shade 10 = .ok (.ifCond .eq 17, 3) := dk_153 0 17 (dk_at dksX9_shade_0 10 rfl rfl)
theorem dX9_shade_13 : decode cX9_shade 13 = .ok (.aload_n 0, 1) := dk_42 (dk_at dksX9_shade_0 13 rfl rfl)
theorem dX9_shade_14 : decode cX9_shade 14 = .ok (.getfield 7, 3) := dk_180 0 7 (dk_at dksX9_shade_0 14 rfl rfl)
theorem dX9_shade_17 : decode cX9_shade 17 = .ok (.bipush 8, 2) := dk_16 8 (dk_at dksX9_shade_0 17 rfl rfl)
theorem dX9_shade_19 : decode cX9_shade 19 = .ok (.iload_n 1, 1) := dk_27 (dk_at dksX9_shade_0 19 rfl rfl)
theorem dX9_shade_20 : decode cX9_shade 20 = .ok (.imul, 1) := dk_104 (dk_at dksX9_shade_0 20 rfl rfl)
theorem dX9_shade_21 : decode cX9_shade 21 = .ok (.iload_n 2, 1) := dk_28 (dk_at dksX9_shade_0 21 rfl rfl)
theorem dX9_shade_22 : decode cX9_shade 22 = .ok (.iadd, 1) := dk_96 (dk_at dksX9_shade_0 22 rfl rfl)
theorem dX9_shade_23 : decode cX9_shade 23 = .ok (.iaload, 1) := dk_46 (dk_at dksX9_shade_0 23 rfl rfl)
theorem dX9_shade_24 : decode cX9_shade 24 = .ok (.goto 8, 3) := dk_167 0 8 (dk_at dksX9_shade_1 0 rfl rfl)
theorem dX9_shade_27 : decode cX9_shade 27 = .ok (.aload_n 0, 1) := dk_42 (dk_at dksX9_shade_1 3 rfl rfl)
theorem dX9_shade_28 : decode cX9_shade 28 = .ok (.iconst 1, 1) := dk_4 (dk_at dksX9_shade_1 4 rfl rfl)
theorem dX9_shade_29 : decode cX9_shade 29 = .ok (.invokevirtual 63, 3) := dk_182 0 63 (dk_at dksX9_shade_1 5 rfl rfl)
theorem dX9_shade_32 : decode cX9_shade 32 = .ok (.ireturn, 1) := dk_172 (dk_at dksX9_shade_1 8 rfl rfl)
abbrev cX9_levels : ByteArray := prog_11_method_74_code
def yX9_levels : MethodName := ⟨RX9, "levels", "()I"⟩
def dkwX9_levels_0 : List UInt8 := [42, 3, 181, 0, 52, 42, 180, 0, 7, 16, 64, 46, 172]
abbrev dktX9_levels_0 : List UInt8 := dkwX9_levels_0 ++ []
theorem dksX9_levels_0 : cX9_levels.data.toList.drop 0 = dktX9_levels_0 := by decide +kernel
theorem dX9_levels_0 : decode cX9_levels 0 = .ok (.aload_n 0, 1) := dk_42 (dk_at dksX9_levels_0 0 rfl rfl)
theorem dX9_levels_1 : decode cX9_levels 1 = .ok (.iconst 0, 1) := dk_3 (dk_at dksX9_levels_0 1 rfl rfl)
theorem dX9_levels_2 : decode cX9_levels 2 = .ok (.putfield 52, 3) := dk_181 0 52 (dk_at dksX9_levels_0 2 rfl rfl)
theorem dX9_levels_5 : decode cX9_levels 5 = .ok (.aload_n 0, 1) := dk_42 (dk_at dksX9_levels_0 5 rfl rfl)
theorem dX9_levels_6 : decode cX9_levels 6 = .ok (.getfield 7, 3) := dk_180 0 7 (dk_at dksX9_levels_0 6 rfl rfl)
theorem dX9_levels_9 : decode cX9_levels 9 = .ok (.bipush 64, 2) := dk_16 64 (dk_at dksX9_levels_0 9 rfl rfl)
theorem dX9_levels_11 : decode cX9_levels 11 = .ok (.iaload, 1) := dk_46 (dk_at dksX9_levels_0 11 rfl rfl)
theorem dX9_levels_12 : decode cX9_levels 12 = .ok (.ireturn, 1) := dk_172 (dk_at dksX9_levels_0 12 rfl rfl)
abbrev cX9_allShades : ByteArray := prog_11_method_75_code
def yX9_allShades : MethodName := ⟨RX9, "allShades", "()I"⟩
def dkwX9_allShades_0 : List UInt8 := [42, 3, 181, 0, 52, 42, 182, 0, 71, 172]
abbrev dktX9_allShades_0 : List UInt8 := dkwX9_allShades_0 ++ []
theorem dksX9_allShades_0 : cX9_allShades.data.toList.drop 0 = dktX9_allShades_0 := by decide +kernel
theorem dX9_allShades_0 : decode cX9_allShades 0 = .ok (.aload_n 0, 1) := dk_42 (dk_at dksX9_allShades_0 0 rfl rfl)
theorem dX9_allShades_1 : decode cX9_allShades 1 = .ok (.iconst 0, 1) := dk_3 (dk_at dksX9_allShades_0 1 rfl rfl)
theorem dX9_allShades_2 : decode cX9_allShades 2 = .ok (.putfield 52, 3) := dk_181 0 52 (dk_at dksX9_allShades_0 2 rfl rfl)
theorem dX9_allShades_5 : decode cX9_allShades 5 = .ok (.aload_n 0, 1) := dk_42 (dk_at dksX9_allShades_0 5 rfl rfl)
theorem dX9_allShades_6 : decode cX9_allShades 6 = .ok (.invokevirtual 71, 3) := dk_182 0 71 (dk_at dksX9_allShades_0 6 rfl rfl)
theorem dX9_allShades_9 : decode cX9_allShades 9 = .ok (.ireturn, 1) := dk_172 (dk_at dksX9_allShades_0 9 rfl rfl)
abbrev cX9_part : ByteArray := prog_11_method_76_code
def yX9_part : MethodName := ⟨RX9, "part", "(II)I"⟩
def dkwX9_part_1 : List UInt8 := [104, 28, 96, 46, 167, 0, 8, 42, 4, 182, 0, 63, 172]
abbrev dktX9_part_1 : List UInt8 := dkwX9_part_1 ++ []
def dkwX9_part_0 : List UInt8 := [42, 3, 181, 0, 52, 42, 182, 0, 99, 27, 28, 184, 0, 146, 153, 0, 17, 42, 180, 0, 22, 16, 8, 27]
abbrev dktX9_part_0 : List UInt8 := dkwX9_part_0 ++ dktX9_part_1
theorem dksX9_part_0 : cX9_part.data.toList.drop 0 = dktX9_part_0 := by decide +kernel
theorem dksX9_part_1 : cX9_part.data.toList.drop 24 = dktX9_part_1 := dk_seg dksX9_part_0 24 rfl rfl
theorem dX9_part_0 : decode cX9_part 0 = .ok (.aload_n 0, 1) := dk_42 (dk_at dksX9_part_0 0 rfl rfl)
theorem dX9_part_1 : decode cX9_part 1 = .ok (.iconst 0, 1) := dk_3 (dk_at dksX9_part_0 1 rfl rfl)
theorem dX9_part_2 : decode cX9_part 2 = .ok (.putfield 52, 3) := dk_181 0 52 (dk_at dksX9_part_0 2 rfl rfl)
theorem dX9_part_5 : decode cX9_part 5 = .ok (.aload_n 0, 1) := dk_42 (dk_at dksX9_part_0 5 rfl rfl)
theorem dX9_part_6 : decode cX9_part 6 = .ok (.invokevirtual 99, 3) := dk_182 0 99 (dk_at dksX9_part_0 6 rfl rfl)
theorem dX9_part_9 : decode cX9_part 9 = .ok (.iload_n 1, 1) := dk_27 (dk_at dksX9_part_0 9 rfl rfl)
theorem dX9_part_10 : decode cX9_part 10 = .ok (.iload_n 2, 1) := dk_28 (dk_at dksX9_part_0 10 rfl rfl)
theorem dX9_part_11 : decode cX9_part 11 = .ok (.invokestatic 146, 3) := dk_184 0 146 (dk_at dksX9_part_0 11 rfl rfl)
theorem dX9_part_14 : decode cX9_part 14 = .ok (.ifCond .eq 17, 3) := dk_153 0 17 (dk_at dksX9_part_0 14 rfl rfl)
theorem dX9_part_17 : decode cX9_part 17 = .ok (.aload_n 0, 1) := dk_42 (dk_at dksX9_part_0 17 rfl rfl)
theorem dX9_part_18 : decode cX9_part 18 = .ok (.getfield 22, 3) := dk_180 0 22 (dk_at dksX9_part_0 18 rfl rfl)
theorem dX9_part_21 : decode cX9_part 21 = .ok (.bipush 8, 2) := dk_16 8 (dk_at dksX9_part_0 21 rfl rfl)
theorem dX9_part_23 : decode cX9_part 23 = .ok (.iload_n 1, 1) := dk_27 (dk_at dksX9_part_0 23 rfl rfl)
theorem dX9_part_24 : decode cX9_part 24 = .ok (.imul, 1) := dk_104 (dk_at dksX9_part_1 0 rfl rfl)
theorem dX9_part_25 : decode cX9_part 25 = .ok (.iload_n 2, 1) := dk_28 (dk_at dksX9_part_1 1 rfl rfl)
theorem dX9_part_26 : decode cX9_part 26 = .ok (.iadd, 1) := dk_96 (dk_at dksX9_part_1 2 rfl rfl)
theorem dX9_part_27 : decode cX9_part 27 = .ok (.iaload, 1) := dk_46 (dk_at dksX9_part_1 3 rfl rfl)
theorem dX9_part_28 : decode cX9_part 28 = .ok (.goto 8, 3) := dk_167 0 8 (dk_at dksX9_part_1 4 rfl rfl)
theorem dX9_part_31 : decode cX9_part 31 = .ok (.aload_n 0, 1) := dk_42 (dk_at dksX9_part_1 7 rfl rfl)
theorem dX9_part_32 : decode cX9_part 32 = .ok (.iconst 1, 1) := dk_4 (dk_at dksX9_part_1 8 rfl rfl)
theorem dX9_part_33 : decode cX9_part 33 = .ok (.invokevirtual 63, 3) := dk_182 0 63 (dk_at dksX9_part_1 9 rfl rfl)
theorem dX9_part_36 : decode cX9_part 36 = .ok (.ireturn, 1) := dk_172 (dk_at dksX9_part_1 12 rfl rfl)
abbrev cX9_bandOf : ByteArray := prog_11_method_77_code
def yX9_bandOf : MethodName := ⟨RX9, "bandOf", "(II)I"⟩
def dkwX9_bandOf_1 : List UInt8 := [16, 64, 46, 184, 0, 93, 167, 0, 8, 42, 4, 182, 0, 63, 172]
abbrev dktX9_bandOf_1 : List UInt8 := dkwX9_bandOf_1 ++ []
def dkwX9_bandOf_0 : List UInt8 := [42, 3, 181, 0, 52, 27, 28, 184, 0, 146, 153, 0, 22, 16, 8, 27, 104, 28, 96, 42, 180, 0, 7]
abbrev dktX9_bandOf_0 : List UInt8 := dkwX9_bandOf_0 ++ dktX9_bandOf_1
theorem dksX9_bandOf_0 : cX9_bandOf.data.toList.drop 0 = dktX9_bandOf_0 := by decide +kernel
theorem dksX9_bandOf_1 : cX9_bandOf.data.toList.drop 23 = dktX9_bandOf_1 := dk_seg dksX9_bandOf_0 23 rfl rfl
theorem dX9_bandOf_0 : decode cX9_bandOf 0 = .ok (.aload_n 0, 1) := dk_42 (dk_at dksX9_bandOf_0 0 rfl rfl)
theorem dX9_bandOf_1 : decode cX9_bandOf 1 = .ok (.iconst 0, 1) := dk_3 (dk_at dksX9_bandOf_0 1 rfl rfl)
theorem dX9_bandOf_2 : decode cX9_bandOf 2 = .ok (.putfield 52, 3) := dk_181 0 52 (dk_at dksX9_bandOf_0 2 rfl rfl)
theorem dX9_bandOf_5 : decode cX9_bandOf 5 = .ok (.iload_n 1, 1) := dk_27 (dk_at dksX9_bandOf_0 5 rfl rfl)
theorem dX9_bandOf_6 : decode cX9_bandOf 6 = .ok (.iload_n 2, 1) := dk_28 (dk_at dksX9_bandOf_0 6 rfl rfl)
theorem dX9_bandOf_7 : decode cX9_bandOf 7 = .ok (.invokestatic 146, 3) := dk_184 0 146 (dk_at dksX9_bandOf_0 7 rfl rfl)
theorem dX9_bandOf_10 : decode cX9_bandOf 10 = .ok (.ifCond .eq 22, 3) := dk_153 0 22 (dk_at dksX9_bandOf_0 10 rfl rfl)
theorem dX9_bandOf_13 : decode cX9_bandOf 13 = .ok (.bipush 8, 2) := dk_16 8 (dk_at dksX9_bandOf_0 13 rfl rfl)
theorem dX9_bandOf_15 : decode cX9_bandOf 15 = .ok (.iload_n 1, 1) := dk_27 (dk_at dksX9_bandOf_0 15 rfl rfl)
theorem dX9_bandOf_16 : decode cX9_bandOf 16 = .ok (.imul, 1) := dk_104 (dk_at dksX9_bandOf_0 16 rfl rfl)
theorem dX9_bandOf_17 : decode cX9_bandOf 17 = .ok (.iload_n 2, 1) := dk_28 (dk_at dksX9_bandOf_0 17 rfl rfl)
theorem dX9_bandOf_18 : decode cX9_bandOf 18 = .ok (.iadd, 1) := dk_96 (dk_at dksX9_bandOf_0 18 rfl rfl)
theorem dX9_bandOf_19 : decode cX9_bandOf 19 = .ok (.aload_n 0, 1) := dk_42 (dk_at dksX9_bandOf_0 19 rfl rfl)
theorem dX9_bandOf_20 : decode cX9_bandOf 20 = .ok (.getfield 7, 3) := dk_180 0 7 (dk_at dksX9_bandOf_0 20 rfl rfl)
theorem dX9_bandOf_23 : decode cX9_bandOf 23 = .ok (.bipush 64, 2) := dk_16 64 (dk_at dksX9_bandOf_1 0 rfl rfl)
theorem dX9_bandOf_25 : decode cX9_bandOf 25 = .ok (.iaload, 1) := dk_46 (dk_at dksX9_bandOf_1 2 rfl rfl)
theorem dX9_bandOf_26 : decode cX9_bandOf 26 = .ok (.invokestatic 93, 3) := dk_184 0 93 (dk_at dksX9_bandOf_1 3 rfl rfl)
theorem dX9_bandOf_29 : decode cX9_bandOf 29 = .ok (.goto 8, 3) := dk_167 0 8 (dk_at dksX9_bandOf_1 6 rfl rfl)
theorem dX9_bandOf_32 : decode cX9_bandOf 32 = .ok (.aload_n 0, 1) := dk_42 (dk_at dksX9_bandOf_1 9 rfl rfl)
theorem dX9_bandOf_33 : decode cX9_bandOf 33 = .ok (.iconst 1, 1) := dk_4 (dk_at dksX9_bandOf_1 10 rfl rfl)
theorem dX9_bandOf_34 : decode cX9_bandOf 34 = .ok (.invokevirtual 63, 3) := dk_182 0 63 (dk_at dksX9_bandOf_1 11 rfl rfl)
theorem dX9_bandOf_37 : decode cX9_bandOf 37 = .ok (.ireturn, 1) := dk_172 (dk_at dksX9_bandOf_1 14 rfl rfl)
abbrev cX9_placeOf : ByteArray := prog_11_method_78_code
def yX9_placeOf : MethodName := ⟨RX9, "placeOf", "(II)I"⟩
def dkwX9_placeOf_1 : List UInt8 := [16, 64, 46, 184, 0, 200, 167, 0, 8, 42, 4, 182, 0, 63, 172]
abbrev dktX9_placeOf_1 : List UInt8 := dkwX9_placeOf_1 ++ []
def dkwX9_placeOf_0 : List UInt8 := [42, 3, 181, 0, 52, 27, 28, 184, 0, 146, 153, 0, 22, 16, 8, 27, 104, 28, 96, 42, 180, 0, 7]
abbrev dktX9_placeOf_0 : List UInt8 := dkwX9_placeOf_0 ++ dktX9_placeOf_1
theorem dksX9_placeOf_0 : cX9_placeOf.data.toList.drop 0 = dktX9_placeOf_0 := by decide +kernel
theorem dksX9_placeOf_1 : cX9_placeOf.data.toList.drop 23 = dktX9_placeOf_1 := dk_seg dksX9_placeOf_0 23 rfl rfl
theorem dX9_placeOf_0 : decode cX9_placeOf 0 = .ok (.aload_n 0, 1) := dk_42 (dk_at dksX9_placeOf_0 0 rfl rfl)
theorem dX9_placeOf_1 : decode cX9_placeOf 1 = .ok (.iconst 0, 1) := dk_3 (dk_at dksX9_placeOf_0 1 rfl rfl)
theorem dX9_placeOf_2 : decode cX9_placeOf 2 = .ok (.putfield 52, 3) := dk_181 0 52 (dk_at dksX9_placeOf_0 2 rfl rfl)
theorem dX9_placeOf_5 : decode cX9_placeOf 5 = .ok (.iload_n 1, 1) := dk_27 (dk_at dksX9_placeOf_0 5 rfl rfl)
theorem dX9_placeOf_6 : decode cX9_placeOf 6 = .ok (.iload_n 2, 1) := dk_28 (dk_at dksX9_placeOf_0 6 rfl rfl)
theorem dX9_placeOf_7 : decode cX9_placeOf 7 = .ok (.invokestatic 146, 3) := dk_184 0 146 (dk_at dksX9_placeOf_0 7 rfl rfl)
theorem dX9_placeOf_10 : decode cX9_placeOf 10 = .ok (.ifCond .eq 22, 3) := dk_153 0 22 (dk_at dksX9_placeOf_0 10 rfl rfl)
theorem dX9_placeOf_13 : decode cX9_placeOf 13 = .ok (.bipush 8, 2) := dk_16 8 (dk_at dksX9_placeOf_0 13 rfl rfl)
theorem dX9_placeOf_15 : decode cX9_placeOf 15 = .ok (.iload_n 1, 1) := dk_27 (dk_at dksX9_placeOf_0 15 rfl rfl)
theorem dX9_placeOf_16 : decode cX9_placeOf 16 = .ok (.imul, 1) := dk_104 (dk_at dksX9_placeOf_0 16 rfl rfl)
theorem dX9_placeOf_17 : decode cX9_placeOf 17 = .ok (.iload_n 2, 1) := dk_28 (dk_at dksX9_placeOf_0 17 rfl rfl)
theorem dX9_placeOf_18 : decode cX9_placeOf 18 = .ok (.iadd, 1) := dk_96 (dk_at dksX9_placeOf_0 18 rfl rfl)
theorem dX9_placeOf_19 : decode cX9_placeOf 19 = .ok (.aload_n 0, 1) := dk_42 (dk_at dksX9_placeOf_0 19 rfl rfl)
theorem dX9_placeOf_20 : decode cX9_placeOf 20 = .ok (.getfield 7, 3) := dk_180 0 7 (dk_at dksX9_placeOf_0 20 rfl rfl)
theorem dX9_placeOf_23 : decode cX9_placeOf 23 = .ok (.bipush 64, 2) := dk_16 64 (dk_at dksX9_placeOf_1 0 rfl rfl)
theorem dX9_placeOf_25 : decode cX9_placeOf 25 = .ok (.iaload, 1) := dk_46 (dk_at dksX9_placeOf_1 2 rfl rfl)
theorem dX9_placeOf_26 : decode cX9_placeOf 26 = .ok (.invokestatic 200, 3) := dk_184 0 200 (dk_at dksX9_placeOf_1 3 rfl rfl)
theorem dX9_placeOf_29 : decode cX9_placeOf 29 = .ok (.goto 8, 3) := dk_167 0 8 (dk_at dksX9_placeOf_1 6 rfl rfl)
theorem dX9_placeOf_32 : decode cX9_placeOf 32 = .ok (.aload_n 0, 1) := dk_42 (dk_at dksX9_placeOf_1 9 rfl rfl)
theorem dX9_placeOf_33 : decode cX9_placeOf 33 = .ok (.iconst 1, 1) := dk_4 (dk_at dksX9_placeOf_1 10 rfl rfl)
theorem dX9_placeOf_34 : decode cX9_placeOf 34 = .ok (.invokevirtual 63, 3) := dk_182 0 63 (dk_at dksX9_placeOf_1 11 rfl rfl)
theorem dX9_placeOf_37 : decode cX9_placeOf 37 = .ok (.ireturn, 1) := dk_172 (dk_at dksX9_placeOf_1 14 rfl rfl)
abbrev cX9_place : ByteArray := prog_11_method_22_code
def yX9_place : MethodName := ⟨RX9, "place", "(II)I"⟩
def dkwX9_place_1 : List UInt8 := [4, 167, 0, 4, 3, 96, 61, 132, 3, 1, 167, 255, 226, 28, 172]
abbrev dktX9_place_1 : List UInt8 := dkwX9_place_1 ++ []
def dkwX9_place_0 : List UInt8 := [3, 61, 3, 62, 29, 16, 64, 162, 0, 30, 28, 29, 27, 184, 0, 96, 26, 27, 184, 0, 96, 162, 0, 7]
abbrev dktX9_place_0 : List UInt8 := dkwX9_place_0 ++ dktX9_place_1
theorem dksX9_place_0 : cX9_place.data.toList.drop 0 = dktX9_place_0 := by decide +kernel
theorem dksX9_place_1 : cX9_place.data.toList.drop 24 = dktX9_place_1 := dk_seg dksX9_place_0 24 rfl rfl
theorem dX9_place_0 : decode cX9_place 0 = .ok (.iconst 0, 1) := dk_3 (dk_at dksX9_place_0 0 rfl rfl)
theorem dX9_place_1 : decode cX9_place 1 = .ok (.istore_n 2, 1) := dk_61 (dk_at dksX9_place_0 1 rfl rfl)
theorem dX9_place_2 : decode cX9_place 2 = .ok (.iconst 0, 1) := dk_3 (dk_at dksX9_place_0 2 rfl rfl)
theorem dX9_place_3 : decode cX9_place 3 = .ok (.istore_n 3, 1) := dk_62 (dk_at dksX9_place_0 3 rfl rfl)
theorem dX9_place_4 : decode cX9_place 4 = .ok (.iload_n 3, 1) := dk_29 (dk_at dksX9_place_0 4 rfl rfl)
theorem dX9_place_5 : decode cX9_place 5 = .ok (.bipush 64, 2) := dk_16 64 (dk_at dksX9_place_0 5 rfl rfl)
theorem dX9_place_7 : decode cX9_place 7 = .ok (.if_icmp .ge 30, 3) := dk_162 0 30 (dk_at dksX9_place_0 7 rfl rfl)
theorem dX9_place_10 : decode cX9_place 10 = .ok (.iload_n 2, 1) := dk_28 (dk_at dksX9_place_0 10 rfl rfl)
theorem dX9_place_11 : decode cX9_place 11 = .ok (.iload_n 3, 1) := dk_29 (dk_at dksX9_place_0 11 rfl rfl)
theorem dX9_place_12 : decode cX9_place 12 = .ok (.iload_n 1, 1) := dk_27 (dk_at dksX9_place_0 12 rfl rfl)
theorem dX9_place_13 : decode cX9_place 13 = .ok (.invokestatic 96, 3) := dk_184 0 96 (dk_at dksX9_place_0 13 rfl rfl)
theorem dX9_place_16 : decode cX9_place 16 = .ok (.iload_n 0, 1) := dk_26 (dk_at dksX9_place_0 16 rfl rfl)
theorem dX9_place_17 : decode cX9_place 17 = .ok (.iload_n 1, 1) := dk_27 (dk_at dksX9_place_0 17 rfl rfl)
theorem dX9_place_18 : decode cX9_place 18 = .ok (.invokestatic 96, 3) := dk_184 0 96 (dk_at dksX9_place_0 18 rfl rfl)
theorem dX9_place_21 : decode cX9_place 21 = .ok (.if_icmp .ge 7, 3) := dk_162 0 7 (dk_at dksX9_place_0 21 rfl rfl)
theorem dX9_place_24 : decode cX9_place 24 = .ok (.iconst 1, 1) := dk_4 (dk_at dksX9_place_1 0 rfl rfl)
theorem dX9_place_25 : decode cX9_place 25 = .ok (.goto 4, 3) := dk_167 0 4 (dk_at dksX9_place_1 1 rfl rfl)
theorem dX9_place_28 : decode cX9_place 28 = .ok (.iconst 0, 1) := dk_3 (dk_at dksX9_place_1 4 rfl rfl)
theorem dX9_place_29 : decode cX9_place 29 = .ok (.iadd, 1) := dk_96 (dk_at dksX9_place_1 5 rfl rfl)
theorem dX9_place_30 : decode cX9_place 30 = .ok (.istore_n 2, 1) := dk_61 (dk_at dksX9_place_1 6 rfl rfl)
theorem dX9_place_31 : decode cX9_place 31 = .ok (.iinc 3 1, 3) := dk_132 3 1 (dk_at dksX9_place_1 7 rfl rfl)
theorem dX9_place_34 : decode cX9_place 34 = .ok (.goto (-30), 3) := dk_167 255 226 (dk_at dksX9_place_1 10 rfl rfl)
theorem dX9_place_37 : decode cX9_place 37 = .ok (.iload_n 2, 1) := dk_28 (dk_at dksX9_place_1 13 rfl rfl)
theorem dX9_place_38 : decode cX9_place 38 = .ok (.ireturn, 1) := dk_172 (dk_at dksX9_place_1 14 rfl rfl)
abbrev cX9_energy : ByteArray := prog_11_method_80_code
def yX9_energy : MethodName := ⟨RX9, "energy", "(I)I"⟩
def dkwX9_energy_1 : List UInt8 := [4, 182, 0, 63, 172]
abbrev dktX9_energy_1 : List UInt8 := dkwX9_energy_1 ++ []
def dkwX9_energy_0 : List UInt8 := [42, 3, 181, 0, 52, 27, 3, 16, 9, 184, 0, 56, 153, 0, 11, 42, 27, 182, 0, 203, 167, 0, 8, 42]
abbrev dktX9_energy_0 : List UInt8 := dkwX9_energy_0 ++ dktX9_energy_1
theorem dksX9_energy_0 : cX9_energy.data.toList.drop 0 = dktX9_energy_0 := by decide +kernel
theorem dksX9_energy_1 : cX9_energy.data.toList.drop 24 = dktX9_energy_1 := dk_seg dksX9_energy_0 24 rfl rfl
theorem dX9_energy_0 : decode cX9_energy 0 = .ok (.aload_n 0, 1) := dk_42 (dk_at dksX9_energy_0 0 rfl rfl)
theorem dX9_energy_1 : decode cX9_energy 1 = .ok (.iconst 0, 1) := dk_3 (dk_at dksX9_energy_0 1 rfl rfl)
theorem dX9_energy_2 : decode cX9_energy 2 = .ok (.putfield 52, 3) := dk_181 0 52 (dk_at dksX9_energy_0 2 rfl rfl)
theorem dX9_energy_5 : decode cX9_energy 5 = .ok (.iload_n 1, 1) := dk_27 (dk_at dksX9_energy_0 5 rfl rfl)
theorem dX9_energy_6 : decode cX9_energy 6 = .ok (.iconst 0, 1) := dk_3 (dk_at dksX9_energy_0 6 rfl rfl)
theorem dX9_energy_7 : decode cX9_energy 7 = .ok (.bipush 9, 2) := dk_16 9 (dk_at dksX9_energy_0 7 rfl rfl)
theorem dX9_energy_9 : decode cX9_energy 9 = .ok (.invokestatic 56, 3) := dk_184 0 56 (dk_at dksX9_energy_0 9 rfl rfl)
theorem dX9_energy_12 : decode cX9_energy 12 = .ok (.ifCond .eq 11, 3) := dk_153 0 11 (dk_at dksX9_energy_0 12 rfl rfl)
theorem dX9_energy_15 : decode cX9_energy 15 = .ok (.aload_n 0, 1) := dk_42 (dk_at dksX9_energy_0 15 rfl rfl)
theorem dX9_energy_16 : decode cX9_energy 16 = .ok (.iload_n 1, 1) := dk_27 (dk_at dksX9_energy_0 16 rfl rfl)
theorem dX9_energy_17 : decode cX9_energy 17 = .ok (.invokevirtual 203, 3) := dk_182 0 203 (dk_at dksX9_energy_0 17 rfl rfl)
theorem dX9_energy_20 : decode cX9_energy 20 = .ok (.goto 8, 3) := dk_167 0 8 (dk_at dksX9_energy_0 20 rfl rfl)
theorem dX9_energy_23 : decode cX9_energy 23 = .ok (.aload_n 0, 1) := dk_42 (dk_at dksX9_energy_0 23 rfl rfl)
theorem dX9_energy_24 : decode cX9_energy 24 = .ok (.iconst 1, 1) := dk_4 (dk_at dksX9_energy_1 0 rfl rfl)
theorem dX9_energy_25 : decode cX9_energy 25 = .ok (.invokevirtual 63, 3) := dk_182 0 63 (dk_at dksX9_energy_1 1 rfl rfl)
theorem dX9_energy_28 : decode cX9_energy 28 = .ok (.ireturn, 1) := dk_172 (dk_at dksX9_energy_1 4 rfl rfl)
abbrev cX9_energyOf : ByteArray := prog_11_method_79_code
def yX9_energyOf : MethodName := ⟨RX9, "energyOf", "(I)I"⟩
def dkwX9_energyOf_2 : List UInt8 := [96, 61, 132, 3, 1, 167, 255, 212, 28, 172]
abbrev dktX9_energyOf_2 : List UInt8 := dkwX9_energyOf_2 ++ []
def dkwX9_energyOf_1 : List UInt8 := [184, 0, 93, 27, 160, 0, 19, 42, 180, 0, 22, 29, 46, 42, 180, 0, 22, 29, 46, 104, 167, 0, 4, 3]
abbrev dktX9_energyOf_1 : List UInt8 := dkwX9_energyOf_1 ++ dktX9_energyOf_2
def dkwX9_energyOf_0 : List UInt8 := [42, 182, 0, 99, 3, 61, 3, 62, 29, 16, 64, 162, 0, 44, 28, 29, 42, 180, 0, 7, 16, 64, 46]
abbrev dktX9_energyOf_0 : List UInt8 := dkwX9_energyOf_0 ++ dktX9_energyOf_1
theorem dksX9_energyOf_0 : cX9_energyOf.data.toList.drop 0 = dktX9_energyOf_0 := by decide +kernel
theorem dksX9_energyOf_1 : cX9_energyOf.data.toList.drop 23 = dktX9_energyOf_1 := dk_seg dksX9_energyOf_0 23 rfl rfl
theorem dksX9_energyOf_2 : cX9_energyOf.data.toList.drop 47 = dktX9_energyOf_2 := dk_seg dksX9_energyOf_1 24 rfl rfl
theorem dX9_energyOf_0 : decode cX9_energyOf 0 = .ok (.aload_n 0, 1) := dk_42 (dk_at dksX9_energyOf_0 0 rfl rfl)
theorem dX9_energyOf_1 : decode cX9_energyOf 1 = .ok (.invokevirtual 99, 3) := dk_182 0 99 (dk_at dksX9_energyOf_0 1 rfl rfl)
theorem dX9_energyOf_4 : decode cX9_energyOf 4 = .ok (.iconst 0, 1) := dk_3 (dk_at dksX9_energyOf_0 4 rfl rfl)
theorem dX9_energyOf_5 : decode cX9_energyOf 5 = .ok (.istore_n 2, 1) := dk_61 (dk_at dksX9_energyOf_0 5 rfl rfl)
theorem dX9_energyOf_6 : decode cX9_energyOf 6 = .ok (.iconst 0, 1) := dk_3 (dk_at dksX9_energyOf_0 6 rfl rfl)
theorem dX9_energyOf_7 : decode cX9_energyOf 7 = .ok (.istore_n 3, 1) := dk_62 (dk_at dksX9_energyOf_0 7 rfl rfl)
theorem dX9_energyOf_8 : decode cX9_energyOf 8 = .ok (.iload_n 3, 1) := dk_29 (dk_at dksX9_energyOf_0 8 rfl rfl)
theorem dX9_energyOf_9 : decode cX9_energyOf 9 = .ok (.bipush 64, 2) := dk_16 64 (dk_at dksX9_energyOf_0 9 rfl rfl)
theorem dX9_energyOf_11 : decode cX9_energyOf 11 = .ok (.if_icmp .ge 44, 3) := dk_162 0 44 (dk_at dksX9_energyOf_0 11 rfl rfl)
theorem dX9_energyOf_14 : decode cX9_energyOf 14 = .ok (.iload_n 2, 1) := dk_28 (dk_at dksX9_energyOf_0 14 rfl rfl)
theorem dX9_energyOf_15 : decode cX9_energyOf 15 = .ok (.iload_n 3, 1) := dk_29 (dk_at dksX9_energyOf_0 15 rfl rfl)
theorem dX9_energyOf_16 : decode cX9_energyOf 16 = .ok (.aload_n 0, 1) := dk_42 (dk_at dksX9_energyOf_0 16 rfl rfl)
theorem dX9_energyOf_17 : decode cX9_energyOf 17 = .ok (.getfield 7, 3) := dk_180 0 7 (dk_at dksX9_energyOf_0 17 rfl rfl)
theorem dX9_energyOf_20 : decode cX9_energyOf 20 = .ok (.bipush 64, 2) := dk_16 64 (dk_at dksX9_energyOf_0 20 rfl rfl)
theorem dX9_energyOf_22 : decode cX9_energyOf 22 = .ok (.iaload, 1) := dk_46 (dk_at dksX9_energyOf_0 22 rfl rfl)
theorem dX9_energyOf_23 : decode cX9_energyOf 23 = .ok (.invokestatic 93, 3) := dk_184 0 93 (dk_at dksX9_energyOf_1 0 rfl rfl)
theorem dX9_energyOf_26 : decode cX9_energyOf 26 = .ok (.iload_n 1, 1) := dk_27 (dk_at dksX9_energyOf_1 3 rfl rfl)
theorem dX9_energyOf_27 : decode cX9_energyOf 27 = .ok (.if_icmp .ne 19, 3) := dk_160 0 19 (dk_at dksX9_energyOf_1 4 rfl rfl)
theorem dX9_energyOf_30 : decode cX9_energyOf 30 = .ok (.aload_n 0, 1) := dk_42 (dk_at dksX9_energyOf_1 7 rfl rfl)
theorem dX9_energyOf_31 : decode cX9_energyOf 31 = .ok (.getfield 22, 3) := dk_180 0 22 (dk_at dksX9_energyOf_1 8 rfl rfl)
theorem dX9_energyOf_34 : decode cX9_energyOf 34 = .ok (.iload_n 3, 1) := dk_29 (dk_at dksX9_energyOf_1 11 rfl rfl)
theorem dX9_energyOf_35 : decode cX9_energyOf 35 = .ok (.iaload, 1) := dk_46 (dk_at dksX9_energyOf_1 12 rfl rfl)
theorem dX9_energyOf_36 : decode cX9_energyOf 36 = .ok (.aload_n 0, 1) := dk_42 (dk_at dksX9_energyOf_1 13 rfl rfl)
theorem dX9_energyOf_37 : decode cX9_energyOf 37 = .ok (.getfield 22, 3) := dk_180 0 22 (dk_at dksX9_energyOf_1 14 rfl rfl)
theorem dX9_energyOf_40 : decode cX9_energyOf 40 = .ok (.iload_n 3, 1) := dk_29 (dk_at dksX9_energyOf_1 17 rfl rfl)
theorem dX9_energyOf_41 : decode cX9_energyOf 41 = .ok (.iaload, 1) := dk_46 (dk_at dksX9_energyOf_1 18 rfl rfl)
theorem dX9_energyOf_42 : decode cX9_energyOf 42 = .ok (.imul, 1) := dk_104 (dk_at dksX9_energyOf_1 19 rfl rfl)
theorem dX9_energyOf_43 : decode cX9_energyOf 43 = .ok (.goto 4, 3) := dk_167 0 4 (dk_at dksX9_energyOf_1 20 rfl rfl)
theorem dX9_energyOf_46 : decode cX9_energyOf 46 = .ok (.iconst 0, 1) := dk_3 (dk_at dksX9_energyOf_1 23 rfl rfl)
theorem dX9_energyOf_47 : decode cX9_energyOf 47 = .ok (.iadd, 1) := dk_96 (dk_at dksX9_energyOf_2 0 rfl rfl)
theorem dX9_energyOf_48 : decode cX9_energyOf 48 = .ok (.istore_n 2, 1) := dk_61 (dk_at dksX9_energyOf_2 1 rfl rfl)
theorem dX9_energyOf_49 : decode cX9_energyOf 49 = .ok (.iinc 3 1, 3) := dk_132 3 1 (dk_at dksX9_energyOf_2 2 rfl rfl)
theorem dX9_energyOf_52 : decode cX9_energyOf 52 = .ok (.goto (-44), 3) := dk_167 255 212 (dk_at dksX9_energyOf_2 5 rfl rfl)
theorem dX9_energyOf_55 : decode cX9_energyOf 55 = .ok (.iload_n 2, 1) := dk_28 (dk_at dksX9_energyOf_2 8 rfl rfl)
theorem dX9_energyOf_56 : decode cX9_energyOf 56 = .ok (.ireturn, 1) := dk_172 (dk_at dksX9_energyOf_2 9 rfl rfl)
abbrev cX9_shadeBack : ByteArray := prog_11_method_82_code
def yX9_shadeBack : MethodName := ⟨RX9, "shadeBack", "(II)I"⟩
def dkwX9_shadeBack_0 : List UInt8 := [42, 27, 28, 182, 0, 206, 172]
abbrev dktX9_shadeBack_0 : List UInt8 := dkwX9_shadeBack_0 ++ []
theorem dksX9_shadeBack_0 : cX9_shadeBack.data.toList.drop 0 = dktX9_shadeBack_0 := by decide +kernel
theorem dX9_shadeBack_0 : decode cX9_shadeBack 0 = .ok (.aload_n 0, 1) := dk_42 (dk_at dksX9_shadeBack_0 0 rfl rfl)
theorem dX9_shadeBack_1 : decode cX9_shadeBack 1 = .ok (.iload_n 1, 1) := dk_27 (dk_at dksX9_shadeBack_0 1 rfl rfl)
theorem dX9_shadeBack_2 : decode cX9_shadeBack 2 = .ok (.iload_n 2, 1) := dk_28 (dk_at dksX9_shadeBack_0 2 rfl rfl)
theorem dX9_shadeBack_3 : decode cX9_shadeBack 3 = .ok (.invokevirtual 206, 3) := dk_182 0 206 (dk_at dksX9_shadeBack_0 3 rfl rfl)
theorem dX9_shadeBack_6 : decode cX9_shadeBack 6 = .ok (.ireturn, 1) := dk_172 (dk_at dksX9_shadeBack_0 6 rfl rfl)
abbrev cX9_tellBack : ByteArray := prog_11_method_81_code
def yX9_tellBack : MethodName := ⟨RX9, "tellBack", "(II)I"⟩
def dkwX9_tellBack_1 : List UInt8 := [180, 0, 25, 16, 8, 27, 104, 28, 96, 46, 167, 0, 8, 42, 4, 182, 0, 63, 172]
abbrev dktX9_tellBack_1 : List UInt8 := dkwX9_tellBack_1 ++ []
def dkwX9_tellBack_0 : List UInt8 := [42, 3, 181, 0, 52, 42, 182, 0, 99, 42, 182, 0, 109, 27, 28, 184, 0, 146, 153, 0, 17, 42]
abbrev dktX9_tellBack_0 : List UInt8 := dkwX9_tellBack_0 ++ dktX9_tellBack_1
theorem dksX9_tellBack_0 : cX9_tellBack.data.toList.drop 0 = dktX9_tellBack_0 := by decide +kernel
theorem dksX9_tellBack_1 : cX9_tellBack.data.toList.drop 22 = dktX9_tellBack_1 := dk_seg dksX9_tellBack_0 22 rfl rfl
theorem dX9_tellBack_0 : decode cX9_tellBack 0 = .ok (.aload_n 0, 1) := dk_42 (dk_at dksX9_tellBack_0 0 rfl rfl)
theorem dX9_tellBack_1 : decode cX9_tellBack 1 = .ok (.iconst 0, 1) := dk_3 (dk_at dksX9_tellBack_0 1 rfl rfl)
theorem dX9_tellBack_2 : decode cX9_tellBack 2 = .ok (.putfield 52, 3) := dk_181 0 52 (dk_at dksX9_tellBack_0 2 rfl rfl)
theorem dX9_tellBack_5 : decode cX9_tellBack 5 = .ok (.aload_n 0, 1) := dk_42 (dk_at dksX9_tellBack_0 5 rfl rfl)
theorem dX9_tellBack_6 : decode cX9_tellBack 6 = .ok (.invokevirtual 99, 3) := dk_182 0 99 (dk_at dksX9_tellBack_0 6 rfl rfl)
theorem dX9_tellBack_9 : decode cX9_tellBack 9 = .ok (.aload_n 0, 1) := dk_42 (dk_at dksX9_tellBack_0 9 rfl rfl)
theorem dX9_tellBack_10 : decode cX9_tellBack 10 = .ok (.invokevirtual 109, 3) := dk_182 0 109 (dk_at dksX9_tellBack_0 10 rfl rfl)
theorem dX9_tellBack_13 : decode cX9_tellBack 13 = .ok (.iload_n 1, 1) := dk_27 (dk_at dksX9_tellBack_0 13 rfl rfl)
theorem dX9_tellBack_14 : decode cX9_tellBack 14 = .ok (.iload_n 2, 1) := dk_28 (dk_at dksX9_tellBack_0 14 rfl rfl)
theorem dX9_tellBack_15 : decode cX9_tellBack 15 = .ok (.invokestatic 146, 3) := dk_184 0 146 (dk_at dksX9_tellBack_0 15 rfl rfl)
theorem dX9_tellBack_18 : decode cX9_tellBack 18 = .ok (.ifCond .eq 17, 3) := dk_153 0 17 (dk_at dksX9_tellBack_0 18 rfl rfl)
theorem dX9_tellBack_21 : decode cX9_tellBack 21 = .ok (.aload_n 0, 1) := dk_42 (dk_at dksX9_tellBack_0 21 rfl rfl)
theorem dX9_tellBack_22 : decode cX9_tellBack 22 = .ok (.getfield 25, 3) := dk_180 0 25 (dk_at dksX9_tellBack_1 0 rfl rfl)
theorem dX9_tellBack_25 : decode cX9_tellBack 25 = .ok (.bipush 8, 2) := dk_16 8 (dk_at dksX9_tellBack_1 3 rfl rfl)
theorem dX9_tellBack_27 : decode cX9_tellBack 27 = .ok (.iload_n 1, 1) := dk_27 (dk_at dksX9_tellBack_1 5 rfl rfl)
theorem dX9_tellBack_28 : decode cX9_tellBack 28 = .ok (.imul, 1) := dk_104 (dk_at dksX9_tellBack_1 6 rfl rfl)
theorem dX9_tellBack_29 : decode cX9_tellBack 29 = .ok (.iload_n 2, 1) := dk_28 (dk_at dksX9_tellBack_1 7 rfl rfl)
theorem dX9_tellBack_30 : decode cX9_tellBack 30 = .ok (.iadd, 1) := dk_96 (dk_at dksX9_tellBack_1 8 rfl rfl)
theorem dX9_tellBack_31 : decode cX9_tellBack 31 = .ok (.iaload, 1) := dk_46 (dk_at dksX9_tellBack_1 9 rfl rfl)
theorem dX9_tellBack_32 : decode cX9_tellBack 32 = .ok (.goto 8, 3) := dk_167 0 8 (dk_at dksX9_tellBack_1 10 rfl rfl)
theorem dX9_tellBack_35 : decode cX9_tellBack 35 = .ok (.aload_n 0, 1) := dk_42 (dk_at dksX9_tellBack_1 13 rfl rfl)
theorem dX9_tellBack_36 : decode cX9_tellBack 36 = .ok (.iconst 1, 1) := dk_4 (dk_at dksX9_tellBack_1 14 rfl rfl)
theorem dX9_tellBack_37 : decode cX9_tellBack 37 = .ok (.invokevirtual 63, 3) := dk_182 0 63 (dk_at dksX9_tellBack_1 15 rfl rfl)
theorem dX9_tellBack_40 : decode cX9_tellBack 40 = .ok (.ireturn, 1) := dk_172 (dk_at dksX9_tellBack_1 18 rfl rfl)
abbrev cX9_shadeByParts : ByteArray := prog_11_method_83_code
def yX9_shadeByParts : MethodName := ⟨RX9, "shadeByParts", "(II)I"⟩
def dkwX9_shadeByParts_0 : List UInt8 := [42, 27, 28, 182, 0, 206, 172]
abbrev dktX9_shadeByParts_0 : List UInt8 := dkwX9_shadeByParts_0 ++ []
theorem dksX9_shadeByParts_0 : cX9_shadeByParts.data.toList.drop 0 = dktX9_shadeByParts_0 := by decide +kernel
theorem dX9_shadeByParts_0 : decode cX9_shadeByParts 0 = .ok (.aload_n 0, 1) := dk_42 (dk_at dksX9_shadeByParts_0 0 rfl rfl)
theorem dX9_shadeByParts_1 : decode cX9_shadeByParts 1 = .ok (.iload_n 1, 1) := dk_27 (dk_at dksX9_shadeByParts_0 1 rfl rfl)
theorem dX9_shadeByParts_2 : decode cX9_shadeByParts 2 = .ok (.iload_n 2, 1) := dk_28 (dk_at dksX9_shadeByParts_0 2 rfl rfl)
theorem dX9_shadeByParts_3 : decode cX9_shadeByParts 3 = .ok (.invokevirtual 206, 3) := dk_182 0 206 (dk_at dksX9_shadeByParts_0 3 rfl rfl)
theorem dX9_shadeByParts_6 : decode cX9_shadeByParts 6 = .ok (.ireturn, 1) := dk_172 (dk_at dksX9_shadeByParts_0 6 rfl rfl)
abbrev cX9_partsChanged : ByteArray := prog_11_method_85_code
def yX9_partsChanged : MethodName := ⟨RX9, "partsChanged", "(III)I"⟩
def dkwX9_partsChanged_1 : List UInt8 := [153, 0, 17, 42, 16, 8, 27, 104, 28, 96, 29, 182, 0, 209, 167, 0, 8, 42, 5, 182, 0, 63, 172]
abbrev dktX9_partsChanged_1 : List UInt8 := dkwX9_partsChanged_1 ++ []
def dkwX9_partsChanged_0 : List UInt8 := [42, 3, 181, 0, 52, 27, 28, 184, 0, 146, 154, 0, 9, 42, 4, 182, 0, 63, 172, 29, 184, 0, 127]
abbrev dktX9_partsChanged_0 : List UInt8 := dkwX9_partsChanged_0 ++ dktX9_partsChanged_1
theorem dksX9_partsChanged_0 : cX9_partsChanged.data.toList.drop 0 = dktX9_partsChanged_0 := by decide +kernel
theorem dksX9_partsChanged_1 : cX9_partsChanged.data.toList.drop 23 = dktX9_partsChanged_1 := dk_seg dksX9_partsChanged_0 23 rfl rfl
theorem dX9_partsChanged_0 : decode cX9_partsChanged 0 = .ok (.aload_n 0, 1) := dk_42 (dk_at dksX9_partsChanged_0 0 rfl rfl)
theorem dX9_partsChanged_1 : decode cX9_partsChanged 1 = .ok (.iconst 0, 1) := dk_3 (dk_at dksX9_partsChanged_0 1 rfl rfl)
theorem dX9_partsChanged_2 : decode cX9_partsChanged 2 = .ok (.putfield 52, 3) := dk_181 0 52 (dk_at dksX9_partsChanged_0 2 rfl rfl)
theorem dX9_partsChanged_5 : decode cX9_partsChanged 5 = .ok (.iload_n 1, 1) := dk_27 (dk_at dksX9_partsChanged_0 5 rfl rfl)
theorem dX9_partsChanged_6 : decode cX9_partsChanged 6 = .ok (.iload_n 2, 1) := dk_28 (dk_at dksX9_partsChanged_0 6 rfl rfl)
theorem dX9_partsChanged_7 : decode cX9_partsChanged 7 = .ok (.invokestatic 146, 3) := dk_184 0 146 (dk_at dksX9_partsChanged_0 7 rfl rfl)
theorem dX9_partsChanged_10 : decode cX9_partsChanged 10 = .ok (.ifCond .ne 9, 3) := dk_154 0 9 (dk_at dksX9_partsChanged_0 10 rfl rfl)
theorem dX9_partsChanged_13 : decode cX9_partsChanged 13 = .ok (.aload_n 0, 1) := dk_42 (dk_at dksX9_partsChanged_0 13 rfl rfl)
theorem dX9_partsChanged_14 : decode cX9_partsChanged 14 = .ok (.iconst 1, 1) := dk_4 (dk_at dksX9_partsChanged_0 14 rfl rfl)
theorem dX9_partsChanged_15 : decode cX9_partsChanged 15 = .ok (.invokevirtual 63, 3) := dk_182 0 63 (dk_at dksX9_partsChanged_0 15 rfl rfl)
theorem dX9_partsChanged_18 : decode cX9_partsChanged 18 = .ok (.ireturn, 1) := dk_172 (dk_at dksX9_partsChanged_0 18 rfl rfl)
theorem dX9_partsChanged_19 : decode cX9_partsChanged 19 = .ok (.iload_n 3, 1) := dk_29 (dk_at dksX9_partsChanged_0 19 rfl rfl)
theorem dX9_partsChanged_20 : decode cX9_partsChanged 20 = .ok (.invokestatic 127, 3) := dk_184 0 127 (dk_at dksX9_partsChanged_0 20 rfl rfl)
theorem dX9_partsChanged_23 : decode cX9_partsChanged 23 = .ok (.ifCond .eq 17, 3) := dk_153 0 17 (dk_at dksX9_partsChanged_1 0 rfl rfl)
theorem dX9_partsChanged_26 : decode cX9_partsChanged 26 = .ok (.aload_n 0, 1) := dk_42 (dk_at dksX9_partsChanged_1 3 rfl rfl)
theorem dX9_partsChanged_27 : decode cX9_partsChanged 27 = .ok (.bipush 8, 2) := dk_16 8 (dk_at dksX9_partsChanged_1 4 rfl rfl)
theorem dX9_partsChanged_29 : decode cX9_partsChanged 29 = .ok (.iload_n 1, 1) := dk_27 (dk_at dksX9_partsChanged_1 6 rfl rfl)
theorem dX9_partsChanged_30 : decode cX9_partsChanged 30 = .ok (.imul, 1) := dk_104 (dk_at dksX9_partsChanged_1 7 rfl rfl)
theorem dX9_partsChanged_31 : decode cX9_partsChanged 31 = .ok (.iload_n 2, 1) := dk_28 (dk_at dksX9_partsChanged_1 8 rfl rfl)
theorem dX9_partsChanged_32 : decode cX9_partsChanged 32 = .ok (.iadd, 1) := dk_96 (dk_at dksX9_partsChanged_1 9 rfl rfl)
theorem dX9_partsChanged_33 : decode cX9_partsChanged 33 = .ok (.iload_n 3, 1) := dk_29 (dk_at dksX9_partsChanged_1 10 rfl rfl)
theorem dX9_partsChanged_34 : decode cX9_partsChanged 34 = .ok (.invokevirtual 209, 3) := dk_182 0 209 (dk_at dksX9_partsChanged_1 11 rfl rfl)
theorem dX9_partsChanged_37 : decode cX9_partsChanged 37 = .ok (.goto 8, 3) := dk_167 0 8 (dk_at dksX9_partsChanged_1 14 rfl rfl)
theorem dX9_partsChanged_40 : decode cX9_partsChanged 40 = .ok (.aload_n 0, 1) := dk_42 (dk_at dksX9_partsChanged_1 17 rfl rfl)
theorem dX9_partsChanged_41 : decode cX9_partsChanged 41 = .ok (.iconst 2, 1) := dk_5 (dk_at dksX9_partsChanged_1 18 rfl rfl)
theorem dX9_partsChanged_42 : decode cX9_partsChanged 42 = .ok (.invokevirtual 63, 3) := dk_182 0 63 (dk_at dksX9_partsChanged_1 19 rfl rfl)
theorem dX9_partsChanged_45 : decode cX9_partsChanged 45 = .ok (.ireturn, 1) := dk_172 (dk_at dksX9_partsChanged_1 22 rfl rfl)
abbrev cX9_changedBy : ByteArray := prog_11_method_84_code
def yX9_changedBy : MethodName := ⟨RX9, "changedBy", "(II)I"⟩
def dkwX9_changedBy_4 : List UInt8 := [132, 5, 1, 167, 255, 219, 21, 4, 172]
abbrev dktX9_changedBy_4 : List UInt8 := dkwX9_changedBy_4 ++ []
def dkwX9_changedBy_3 : List UInt8 := [180, 0, 34, 21, 5, 46, 42, 180, 0, 22, 21, 5, 46, 159, 0, 7, 4, 167, 0, 4, 3, 96, 54, 4]
abbrev dktX9_changedBy_3 : List UInt8 := dkwX9_changedBy_3 ++ dktX9_changedBy_4
def dkwX9_changedBy_2 : List UInt8 := [42, 180, 0, 7, 27, 29, 79, 3, 54, 4, 3, 54, 5, 21, 5, 16, 64, 162, 0, 36, 21, 4, 42]
abbrev dktX9_changedBy_2 : List UInt8 := dkwX9_changedBy_2 ++ dktX9_changedBy_3
def dkwX9_changedBy_1 : List UInt8 := [132, 3, 1, 167, 255, 235, 42, 180, 0, 7, 27, 46, 62, 42, 180, 0, 7, 27, 28, 79, 42, 182, 0, 99]
abbrev dktX9_changedBy_1 : List UInt8 := dkwX9_changedBy_1 ++ dktX9_changedBy_2
def dkwX9_changedBy_0 : List UInt8 := [42, 182, 0, 99, 3, 62, 29, 16, 64, 162, 0, 21, 42, 180, 0, 34, 29, 42, 180, 0, 22, 29, 46, 79]
abbrev dktX9_changedBy_0 : List UInt8 := dkwX9_changedBy_0 ++ dktX9_changedBy_1
theorem dksX9_changedBy_0 : cX9_changedBy.data.toList.drop 0 = dktX9_changedBy_0 := by decide +kernel
theorem dksX9_changedBy_1 : cX9_changedBy.data.toList.drop 24 = dktX9_changedBy_1 := dk_seg dksX9_changedBy_0 24 rfl rfl
theorem dksX9_changedBy_2 : cX9_changedBy.data.toList.drop 48 = dktX9_changedBy_2 := dk_seg dksX9_changedBy_1 24 rfl rfl
theorem dksX9_changedBy_3 : cX9_changedBy.data.toList.drop 71 = dktX9_changedBy_3 := dk_seg dksX9_changedBy_2 23 rfl rfl
theorem dksX9_changedBy_4 : cX9_changedBy.data.toList.drop 95 = dktX9_changedBy_4 := dk_seg dksX9_changedBy_3 24 rfl rfl
theorem dX9_changedBy_0 : decode cX9_changedBy 0 = .ok (.aload_n 0, 1) := dk_42 (dk_at dksX9_changedBy_0 0 rfl rfl)
theorem dX9_changedBy_1 : decode cX9_changedBy 1 = .ok (.invokevirtual 99, 3) := dk_182 0 99 (dk_at dksX9_changedBy_0 1 rfl rfl)
theorem dX9_changedBy_4 : decode cX9_changedBy 4 = .ok (.iconst 0, 1) := dk_3 (dk_at dksX9_changedBy_0 4 rfl rfl)
theorem dX9_changedBy_5 : decode cX9_changedBy 5 = .ok (.istore_n 3, 1) := dk_62 (dk_at dksX9_changedBy_0 5 rfl rfl)
theorem dX9_changedBy_6 : decode cX9_changedBy 6 = .ok (.iload_n 3, 1) := dk_29 (dk_at dksX9_changedBy_0 6 rfl rfl)
theorem dX9_changedBy_7 : decode cX9_changedBy 7 = .ok (.bipush 64, 2) := dk_16 64 (dk_at dksX9_changedBy_0 7 rfl rfl)
theorem dX9_changedBy_9 : decode cX9_changedBy 9 = .ok (.if_icmp .ge 21, 3) := dk_162 0 21 (dk_at dksX9_changedBy_0 9 rfl rfl)
theorem dX9_changedBy_12 : decode cX9_changedBy 12 = .ok (.aload_n 0, 1) := dk_42 (dk_at dksX9_changedBy_0 12 rfl rfl)
theorem dX9_changedBy_13 : decode cX9_changedBy 13 = .ok (.getfield 34, 3) := dk_180 0 34 (dk_at dksX9_changedBy_0 13 rfl rfl)
theorem dX9_changedBy_16 : decode cX9_changedBy 16 = .ok (.iload_n 3, 1) := dk_29 (dk_at dksX9_changedBy_0 16 rfl rfl)
theorem dX9_changedBy_17 : decode cX9_changedBy 17 = .ok (.aload_n 0, 1) := dk_42 (dk_at dksX9_changedBy_0 17 rfl rfl)
theorem dX9_changedBy_18 : decode cX9_changedBy 18 = .ok (.getfield 22, 3) := dk_180 0 22 (dk_at dksX9_changedBy_0 18 rfl rfl)
theorem dX9_changedBy_21 : decode cX9_changedBy 21 = .ok (.iload_n 3, 1) := dk_29 (dk_at dksX9_changedBy_0 21 rfl rfl)
theorem dX9_changedBy_22 : decode cX9_changedBy 22 = .ok (.iaload, 1) := dk_46 (dk_at dksX9_changedBy_0 22 rfl rfl)
theorem dX9_changedBy_23 : decode cX9_changedBy 23 = .ok (.iastore, 1) := dk_79 (dk_at dksX9_changedBy_0 23 rfl rfl)
theorem dX9_changedBy_24 : decode cX9_changedBy 24 = .ok (.iinc 3 1, 3) := dk_132 3 1 (dk_at dksX9_changedBy_1 0 rfl rfl)
theorem dX9_changedBy_27 : decode cX9_changedBy 27 = .ok (.goto (-21), 3) := dk_167 255 235 (dk_at dksX9_changedBy_1 3 rfl rfl)
theorem dX9_changedBy_30 : decode cX9_changedBy 30 = .ok (.aload_n 0, 1) := dk_42 (dk_at dksX9_changedBy_1 6 rfl rfl)
theorem dX9_changedBy_31 : decode cX9_changedBy 31 = .ok (.getfield 7, 3) := dk_180 0 7 (dk_at dksX9_changedBy_1 7 rfl rfl)
theorem dX9_changedBy_34 : decode cX9_changedBy 34 = .ok (.iload_n 1, 1) := dk_27 (dk_at dksX9_changedBy_1 10 rfl rfl)
theorem dX9_changedBy_35 : decode cX9_changedBy 35 = .ok (.iaload, 1) := dk_46 (dk_at dksX9_changedBy_1 11 rfl rfl)
theorem dX9_changedBy_36 : decode cX9_changedBy 36 = .ok (.istore_n 3, 1) := dk_62 (dk_at dksX9_changedBy_1 12 rfl rfl)
theorem dX9_changedBy_37 : decode cX9_changedBy 37 = .ok (.aload_n 0, 1) := dk_42 (dk_at dksX9_changedBy_1 13 rfl rfl)
theorem dX9_changedBy_38 : decode cX9_changedBy 38 = .ok (.getfield 7, 3) := dk_180 0 7 (dk_at dksX9_changedBy_1 14 rfl rfl)
theorem dX9_changedBy_41 : decode cX9_changedBy 41 = .ok (.iload_n 1, 1) := dk_27 (dk_at dksX9_changedBy_1 17 rfl rfl)
theorem dX9_changedBy_42 : decode cX9_changedBy 42 = .ok (.iload_n 2, 1) := dk_28 (dk_at dksX9_changedBy_1 18 rfl rfl)
theorem dX9_changedBy_43 : decode cX9_changedBy 43 = .ok (.iastore, 1) := dk_79 (dk_at dksX9_changedBy_1 19 rfl rfl)
theorem dX9_changedBy_44 : decode cX9_changedBy 44 = .ok (.aload_n 0, 1) := dk_42 (dk_at dksX9_changedBy_1 20 rfl rfl)
theorem dX9_changedBy_45 : decode cX9_changedBy 45 = .ok (.invokevirtual 99, 3) := dk_182 0 99 (dk_at dksX9_changedBy_1 21 rfl rfl)
theorem dX9_changedBy_48 : decode cX9_changedBy 48 = .ok (.aload_n 0, 1) := dk_42 (dk_at dksX9_changedBy_2 0 rfl rfl)
theorem dX9_changedBy_49 : decode cX9_changedBy 49 = .ok (.getfield 7, 3) := dk_180 0 7 (dk_at dksX9_changedBy_2 1 rfl rfl)
theorem dX9_changedBy_52 : decode cX9_changedBy 52 = .ok (.iload_n 1, 1) := dk_27 (dk_at dksX9_changedBy_2 4 rfl rfl)
theorem dX9_changedBy_53 : decode cX9_changedBy 53 = .ok (.iload_n 3, 1) := dk_29 (dk_at dksX9_changedBy_2 5 rfl rfl)
theorem dX9_changedBy_54 : decode cX9_changedBy 54 = .ok (.iastore, 1) := dk_79 (dk_at dksX9_changedBy_2 6 rfl rfl)
theorem dX9_changedBy_55 : decode cX9_changedBy 55 = .ok (.iconst 0, 1) := dk_3 (dk_at dksX9_changedBy_2 7 rfl rfl)
theorem dX9_changedBy_56 : decode cX9_changedBy 56 = .ok (.istore 4, 2) := dk_54 4 (dk_at dksX9_changedBy_2 8 rfl rfl)
theorem dX9_changedBy_58 : decode cX9_changedBy 58 = .ok (.iconst 0, 1) := dk_3 (dk_at dksX9_changedBy_2 10 rfl rfl)
theorem dX9_changedBy_59 : decode cX9_changedBy 59 = .ok (.istore 5, 2) := dk_54 5 (dk_at dksX9_changedBy_2 11 rfl rfl)
theorem dX9_changedBy_61 : decode cX9_changedBy 61 = .ok (.iload 5, 2) := dk_21 5 (dk_at dksX9_changedBy_2 13 rfl rfl)
theorem dX9_changedBy_63 : decode cX9_changedBy 63 = .ok (.bipush 64, 2) := dk_16 64 (dk_at dksX9_changedBy_2 15 rfl rfl)
theorem dX9_changedBy_65 : decode cX9_changedBy 65 = .ok (.if_icmp .ge 36, 3) := dk_162 0 36 (dk_at dksX9_changedBy_2 17 rfl rfl)
theorem dX9_changedBy_68 : decode cX9_changedBy 68 = .ok (.iload 4, 2) := dk_21 4 (dk_at dksX9_changedBy_2 20 rfl rfl)
theorem dX9_changedBy_70 : decode cX9_changedBy 70 = .ok (.aload_n 0, 1) := dk_42 (dk_at dksX9_changedBy_2 22 rfl rfl)
theorem dX9_changedBy_71 : decode cX9_changedBy 71 = .ok (.getfield 34, 3) := dk_180 0 34 (dk_at dksX9_changedBy_3 0 rfl rfl)
theorem dX9_changedBy_74 : decode cX9_changedBy 74 = .ok (.iload 5, 2) := dk_21 5 (dk_at dksX9_changedBy_3 3 rfl rfl)
theorem dX9_changedBy_76 : decode cX9_changedBy 76 = .ok (.iaload, 1) := dk_46 (dk_at dksX9_changedBy_3 5 rfl rfl)
theorem dX9_changedBy_77 : decode cX9_changedBy 77 = .ok (.aload_n 0, 1) := dk_42 (dk_at dksX9_changedBy_3 6 rfl rfl)
theorem dX9_changedBy_78 : decode cX9_changedBy 78 = .ok (.getfield 22, 3) := dk_180 0 22 (dk_at dksX9_changedBy_3 7 rfl rfl)
theorem dX9_changedBy_81 : decode cX9_changedBy 81 = .ok (.iload 5, 2) := dk_21 5 (dk_at dksX9_changedBy_3 10 rfl rfl)
theorem dX9_changedBy_83 : decode cX9_changedBy 83 = .ok (.iaload, 1) := dk_46 (dk_at dksX9_changedBy_3 12 rfl rfl)
theorem dX9_changedBy_84 : decode cX9_changedBy 84 = .ok (.if_icmp .eq 7, 3) := dk_159 0 7 (dk_at dksX9_changedBy_3 13 rfl rfl)
theorem dX9_changedBy_87 : decode cX9_changedBy 87 = .ok (.iconst 1, 1) := dk_4 (dk_at dksX9_changedBy_3 16 rfl rfl)
theorem dX9_changedBy_88 : decode cX9_changedBy 88 = .ok (.goto 4, 3) := dk_167 0 4 (dk_at dksX9_changedBy_3 17 rfl rfl)
theorem dX9_changedBy_91 : decode cX9_changedBy 91 = .ok (.iconst 0, 1) := dk_3 (dk_at dksX9_changedBy_3 20 rfl rfl)
theorem dX9_changedBy_92 : decode cX9_changedBy 92 = .ok (.iadd, 1) := dk_96 (dk_at dksX9_changedBy_3 21 rfl rfl)
theorem dX9_changedBy_93 : decode cX9_changedBy 93 = .ok (.istore 4, 2) := dk_54 4 (dk_at dksX9_changedBy_3 22 rfl rfl)
theorem dX9_changedBy_95 : decode cX9_changedBy 95 = .ok (.iinc 5 1, 3) := dk_132 5 1 (dk_at dksX9_changedBy_4 0 rfl rfl)
theorem dX9_changedBy_98 : decode cX9_changedBy 98 = .ok (.goto (-37), 3) := dk_167 255 219 (dk_at dksX9_changedBy_4 3 rfl rfl)
theorem dX9_changedBy_101 : decode cX9_changedBy 101 = .ok (.iload 4, 2) := dk_21 4 (dk_at dksX9_changedBy_4 6 rfl rfl)
theorem dX9_changedBy_103 : decode cX9_changedBy 103 = .ok (.ireturn, 1) := dk_172 (dk_at dksX9_changedBy_4 8 rfl rfl)
abbrev cX9_append : ByteArray := prog_11_method_86_code
def yX9_append : MethodName := ⟨RX9, "append", "(I)I"⟩
def dkwX9_append_2 : List UInt8 := [42, 89, 180, 0, 212, 4, 96, 181, 0, 212, 42, 180, 0, 212, 172]
abbrev dktX9_append_2 : List UInt8 := dkwX9_append_2 ++ []
def dkwX9_append_1 : List UInt8 := [180, 0, 212, 16, 60, 160, 0, 9, 42, 5, 182, 0, 63, 172, 42, 180, 0, 19, 42, 180, 0, 212, 27, 79]
abbrev dktX9_append_1 : List UInt8 := dkwX9_append_1 ++ dktX9_append_2
def dkwX9_append_0 : List UInt8 := [42, 3, 181, 0, 52, 27, 16, 33, 16, 126, 184, 0, 56, 154, 0, 9, 42, 4, 182, 0, 63, 172, 42]
abbrev dktX9_append_0 : List UInt8 := dkwX9_append_0 ++ dktX9_append_1
theorem dksX9_append_0 : cX9_append.data.toList.drop 0 = dktX9_append_0 := by decide +kernel
theorem dksX9_append_1 : cX9_append.data.toList.drop 23 = dktX9_append_1 := dk_seg dksX9_append_0 23 rfl rfl
theorem dksX9_append_2 : cX9_append.data.toList.drop 47 = dktX9_append_2 := dk_seg dksX9_append_1 24 rfl rfl
theorem dX9_append_0 : decode cX9_append 0 = .ok (.aload_n 0, 1) := dk_42 (dk_at dksX9_append_0 0 rfl rfl)
theorem dX9_append_1 : decode cX9_append 1 = .ok (.iconst 0, 1) := dk_3 (dk_at dksX9_append_0 1 rfl rfl)
theorem dX9_append_2 : decode cX9_append 2 = .ok (.putfield 52, 3) := dk_181 0 52 (dk_at dksX9_append_0 2 rfl rfl)
theorem dX9_append_5 : decode cX9_append 5 = .ok (.iload_n 1, 1) := dk_27 (dk_at dksX9_append_0 5 rfl rfl)
theorem dX9_append_6 : decode cX9_append 6 = .ok (.bipush 33, 2) := dk_16 33 (dk_at dksX9_append_0 6 rfl rfl)
theorem dX9_append_8 : decode cX9_append 8 = .ok (.bipush 126, 2) := dk_16 126 (dk_at dksX9_append_0 8 rfl rfl)
theorem dX9_append_10 : decode cX9_append 10 = .ok (.invokestatic 56, 3) := dk_184 0 56 (dk_at dksX9_append_0 10 rfl rfl)
theorem dX9_append_13 : decode cX9_append 13 = .ok (.ifCond .ne 9, 3) := dk_154 0 9 (dk_at dksX9_append_0 13 rfl rfl)
theorem dX9_append_16 : decode cX9_append 16 = .ok (.aload_n 0, 1) := dk_42 (dk_at dksX9_append_0 16 rfl rfl)
theorem dX9_append_17 : decode cX9_append 17 = .ok (.iconst 1, 1) := dk_4 (dk_at dksX9_append_0 17 rfl rfl)
theorem dX9_append_18 : decode cX9_append 18 = .ok (.invokevirtual 63, 3) := dk_182 0 63 (dk_at dksX9_append_0 18 rfl rfl)
theorem dX9_append_21 : decode cX9_append 21 = .ok (.ireturn, 1) := dk_172 (dk_at dksX9_append_0 21 rfl rfl)
theorem dX9_append_22 : decode cX9_append 22 = .ok (.aload_n 0, 1) := dk_42 (dk_at dksX9_append_0 22 rfl rfl)
theorem dX9_append_23 : decode cX9_append 23 = .ok (.getfield 212, 3) := dk_180 0 212 (dk_at dksX9_append_1 0 rfl rfl)
theorem dX9_append_26 : decode cX9_append 26 = .ok (.bipush 60, 2) := dk_16 60 (dk_at dksX9_append_1 3 rfl rfl)
theorem dX9_append_28 : decode cX9_append 28 = .ok (.if_icmp .ne 9, 3) := dk_160 0 9 (dk_at dksX9_append_1 5 rfl rfl)
theorem dX9_append_31 : decode cX9_append 31 = .ok (.aload_n 0, 1) := dk_42 (dk_at dksX9_append_1 8 rfl rfl)
theorem dX9_append_32 : decode cX9_append 32 = .ok (.iconst 2, 1) := dk_5 (dk_at dksX9_append_1 9 rfl rfl)
theorem dX9_append_33 : decode cX9_append 33 = .ok (.invokevirtual 63, 3) := dk_182 0 63 (dk_at dksX9_append_1 10 rfl rfl)
theorem dX9_append_36 : decode cX9_append 36 = .ok (.ireturn, 1) := dk_172 (dk_at dksX9_append_1 13 rfl rfl)
theorem dX9_append_37 : decode cX9_append 37 = .ok (.aload_n 0, 1) := dk_42 (dk_at dksX9_append_1 14 rfl rfl)
theorem dX9_append_38 : decode cX9_append 38 = .ok (.getfield 19, 3) := dk_180 0 19 (dk_at dksX9_append_1 15 rfl rfl)
theorem dX9_append_41 : decode cX9_append 41 = .ok (.aload_n 0, 1) := dk_42 (dk_at dksX9_append_1 18 rfl rfl)
theorem dX9_append_42 : decode cX9_append 42 = .ok (.getfield 212, 3) := dk_180 0 212 (dk_at dksX9_append_1 19 rfl rfl)
theorem dX9_append_45 : decode cX9_append 45 = .ok (.iload_n 1, 1) := dk_27 (dk_at dksX9_append_1 22 rfl rfl)
theorem dX9_append_46 : decode cX9_append 46 = .ok (.iastore, 1) := dk_79 (dk_at dksX9_append_1 23 rfl rfl)
theorem dX9_append_47 : decode cX9_append 47 = .ok (.aload_n 0, 1) := dk_42 (dk_at dksX9_append_2 0 rfl rfl)
theorem dX9_append_48 : decode cX9_append 48 = .ok (.dup, 1) := dk_89 (dk_at dksX9_append_2 1 rfl rfl)
theorem dX9_append_49 : decode cX9_append 49 = .ok (.getfield 212, 3) := dk_180 0 212 (dk_at dksX9_append_2 2 rfl rfl)
theorem dX9_append_52 : decode cX9_append 52 = .ok (.iconst 1, 1) := dk_4 (dk_at dksX9_append_2 5 rfl rfl)
theorem dX9_append_53 : decode cX9_append 53 = .ok (.iadd, 1) := dk_96 (dk_at dksX9_append_2 6 rfl rfl)
theorem dX9_append_54 : decode cX9_append 54 = .ok (.putfield 212, 3) := dk_181 0 212 (dk_at dksX9_append_2 7 rfl rfl)
theorem dX9_append_57 : decode cX9_append 57 = .ok (.aload_n 0, 1) := dk_42 (dk_at dksX9_append_2 10 rfl rfl)
theorem dX9_append_58 : decode cX9_append 58 = .ok (.getfield 212, 3) := dk_180 0 212 (dk_at dksX9_append_2 11 rfl rfl)
theorem dX9_append_61 : decode cX9_append 61 = .ok (.ireturn, 1) := dk_172 (dk_at dksX9_append_2 14 rfl rfl)
abbrev cX9_clearBuffer : ByteArray := prog_11_method_87_code
def yX9_clearBuffer : MethodName := ⟨RX9, "clearBuffer", "()I"⟩
def dkwX9_clearBuffer_0 : List UInt8 := [42, 3, 181, 0, 52, 42, 180, 0, 212, 60, 42, 3, 181, 0, 212, 27, 172]
abbrev dktX9_clearBuffer_0 : List UInt8 := dkwX9_clearBuffer_0 ++ []
theorem dksX9_clearBuffer_0 : cX9_clearBuffer.data.toList.drop 0 = dktX9_clearBuffer_0 := by decide +kernel
theorem dX9_clearBuffer_0 : decode cX9_clearBuffer 0 = .ok (.aload_n 0, 1) := dk_42 (dk_at dksX9_clearBuffer_0 0 rfl rfl)
theorem dX9_clearBuffer_1 : decode cX9_clearBuffer 1 = .ok (.iconst 0, 1) := dk_3 (dk_at dksX9_clearBuffer_0 1 rfl rfl)
theorem dX9_clearBuffer_2 : decode cX9_clearBuffer 2 = .ok (.putfield 52, 3) := dk_181 0 52 (dk_at dksX9_clearBuffer_0 2 rfl rfl)
theorem dX9_clearBuffer_5 : decode cX9_clearBuffer 5 = .ok (.aload_n 0, 1) := dk_42 (dk_at dksX9_clearBuffer_0 5 rfl rfl)
theorem dX9_clearBuffer_6 : decode cX9_clearBuffer 6 = .ok (.getfield 212, 3) := dk_180 0 212 (dk_at dksX9_clearBuffer_0 6 rfl rfl)
theorem dX9_clearBuffer_9 : decode cX9_clearBuffer 9 = .ok (.istore_n 1, 1) := dk_60 (dk_at dksX9_clearBuffer_0 9 rfl rfl)
theorem dX9_clearBuffer_10 : decode cX9_clearBuffer 10 = .ok (.aload_n 0, 1) := dk_42 (dk_at dksX9_clearBuffer_0 10 rfl rfl)
theorem dX9_clearBuffer_11 : decode cX9_clearBuffer 11 = .ok (.iconst 0, 1) := dk_3 (dk_at dksX9_clearBuffer_0 11 rfl rfl)
theorem dX9_clearBuffer_12 : decode cX9_clearBuffer 12 = .ok (.putfield 212, 3) := dk_181 0 212 (dk_at dksX9_clearBuffer_0 12 rfl rfl)
theorem dX9_clearBuffer_15 : decode cX9_clearBuffer 15 = .ok (.iload_n 1, 1) := dk_27 (dk_at dksX9_clearBuffer_0 15 rfl rfl)
theorem dX9_clearBuffer_16 : decode cX9_clearBuffer 16 = .ok (.ireturn, 1) := dk_172 (dk_at dksX9_clearBuffer_0 16 rfl rfl)
abbrev cX9_firstError : ByteArray := prog_11_method_95_code
def yX9_firstError : MethodName := ⟨RX9, "firstError", "()I"⟩
def dkwX9_firstError_0 : List UInt8 := [42, 3, 181, 0, 52, 42, 182, 0, 244, 60, 42, 180, 0, 218, 172]
abbrev dktX9_firstError_0 : List UInt8 := dkwX9_firstError_0 ++ []
theorem dksX9_firstError_0 : cX9_firstError.data.toList.drop 0 = dktX9_firstError_0 := by decide +kernel
theorem dX9_firstError_0 : decode cX9_firstError 0 = .ok (.aload_n 0, 1) := dk_42 (dk_at dksX9_firstError_0 0 rfl rfl)
theorem dX9_firstError_1 : decode cX9_firstError 1 = .ok (.iconst 0, 1) := dk_3 (dk_at dksX9_firstError_0 1 rfl rfl)
theorem dX9_firstError_2 : decode cX9_firstError 2 = .ok (.putfield 52, 3) := dk_181 0 52 (dk_at dksX9_firstError_0 2 rfl rfl)
theorem dX9_firstError_5 : decode cX9_firstError 5 = .ok (.aload_n 0, 1) := dk_42 (dk_at dksX9_firstError_0 5 rfl rfl)
theorem dX9_firstError_6 : decode cX9_firstError 6 = .ok (.invokevirtual 244, 3) := dk_182 0 244 (dk_at dksX9_firstError_0 6 rfl rfl)
theorem dX9_firstError_9 : decode cX9_firstError 9 = .ok (.istore_n 1, 1) := dk_60 (dk_at dksX9_firstError_0 9 rfl rfl)
theorem dX9_firstError_10 : decode cX9_firstError 10 = .ok (.aload_n 0, 1) := dk_42 (dk_at dksX9_firstError_0 10 rfl rfl)
theorem dX9_firstError_11 : decode cX9_firstError 11 = .ok (.getfield 218, 3) := dk_180 0 218 (dk_at dksX9_firstError_0 11 rfl rfl)
theorem dX9_firstError_14 : decode cX9_firstError 14 = .ok (.ireturn, 1) := dk_172 (dk_at dksX9_firstError_0 14 rfl rfl)
abbrev cX9_isWorks : ByteArray := prog_11_method_94_code
def yX9_isWorks : MethodName := ⟨RX9, "isWorks", "()Z"⟩
def dkwX9_isWorks_2 : List UInt8 := [180, 0, 218, 42, 180, 0, 212, 160, 0, 7, 4, 167, 0, 4, 3, 172]
abbrev dktX9_isWorks_2 : List UInt8 := dkwX9_isWorks_2 ++ []
def dkwX9_isWorks_1 : List UInt8 := [172, 42, 89, 180, 0, 224, 4, 96, 181, 0, 224, 42, 16, 59, 182, 0, 227, 60, 167, 255, 226, 42]
abbrev dktX9_isWorks_1 : List UInt8 := dkwX9_isWorks_1 ++ dktX9_isWorks_2
def dkwX9_isWorks_0 : List UInt8 := [42, 3, 181, 0, 218, 42, 3, 181, 0, 224, 4, 60, 27, 153, 0, 32, 42, 182, 0, 241, 154, 0, 5, 3]
abbrev dktX9_isWorks_0 : List UInt8 := dkwX9_isWorks_0 ++ dktX9_isWorks_1
theorem dksX9_isWorks_0 : cX9_isWorks.data.toList.drop 0 = dktX9_isWorks_0 := by decide +kernel
theorem dksX9_isWorks_1 : cX9_isWorks.data.toList.drop 24 = dktX9_isWorks_1 := dk_seg dksX9_isWorks_0 24 rfl rfl
theorem dksX9_isWorks_2 : cX9_isWorks.data.toList.drop 46 = dktX9_isWorks_2 := dk_seg dksX9_isWorks_1 22 rfl rfl
theorem dX9_isWorks_0 : decode cX9_isWorks 0 = .ok (.aload_n 0, 1) := dk_42 (dk_at dksX9_isWorks_0 0 rfl rfl)
theorem dX9_isWorks_1 : decode cX9_isWorks 1 = .ok (.iconst 0, 1) := dk_3 (dk_at dksX9_isWorks_0 1 rfl rfl)
theorem dX9_isWorks_2 : decode cX9_isWorks 2 = .ok (.putfield 218, 3) := dk_181 0 218 (dk_at dksX9_isWorks_0 2 rfl rfl)
theorem dX9_isWorks_5 : decode cX9_isWorks 5 = .ok (.aload_n 0, 1) := dk_42 (dk_at dksX9_isWorks_0 5 rfl rfl)
theorem dX9_isWorks_6 : decode cX9_isWorks 6 = .ok (.iconst 0, 1) := dk_3 (dk_at dksX9_isWorks_0 6 rfl rfl)
theorem dX9_isWorks_7 : decode cX9_isWorks 7 = .ok (.putfield 224, 3) := dk_181 0 224 (dk_at dksX9_isWorks_0 7 rfl rfl)
theorem dX9_isWorks_10 : decode cX9_isWorks 10 = .ok (.iconst 1, 1) := dk_4 (dk_at dksX9_isWorks_0 10 rfl rfl)
theorem dX9_isWorks_11 : decode cX9_isWorks 11 = .ok (.istore_n 1, 1) := dk_60 (dk_at dksX9_isWorks_0 11 rfl rfl)
theorem dX9_isWorks_12 : decode cX9_isWorks 12 = .ok (.iload_n 1, 1) := dk_27 (dk_at dksX9_isWorks_0 12 rfl rfl)
theorem dX9_isWorks_13 : decode cX9_isWorks 13 = .ok (.ifCond .eq 32, 3) := dk_153 0 32 (dk_at dksX9_isWorks_0 13 rfl rfl)
theorem dX9_isWorks_16 : decode cX9_isWorks 16 = .ok (.aload_n 0, 1) := dk_42 (dk_at dksX9_isWorks_0 16 rfl rfl)
theorem dX9_isWorks_17 : decode cX9_isWorks 17 = .ok (.invokevirtual 241, 3) := dk_182 0 241 (dk_at dksX9_isWorks_0 17 rfl rfl)
theorem dX9_isWorks_20 : decode cX9_isWorks 20 = .ok (.ifCond .ne 5, 3) := dk_154 0 5 (dk_at dksX9_isWorks_0 20 rfl rfl)
theorem dX9_isWorks_23 : decode cX9_isWorks 23 = .ok (.iconst 0, 1) := dk_3 (dk_at dksX9_isWorks_0 23 rfl rfl)
theorem dX9_isWorks_24 : decode cX9_isWorks 24 = .ok (.ireturn, 1) := dk_172 (dk_at dksX9_isWorks_1 0 rfl rfl)
theorem dX9_isWorks_25 : decode cX9_isWorks 25 = .ok (.aload_n 0, 1) := dk_42 (dk_at dksX9_isWorks_1 1 rfl rfl)
theorem dX9_isWorks_26 : decode cX9_isWorks 26 = .ok (.dup, 1) := dk_89 (dk_at dksX9_isWorks_1 2 rfl rfl)
theorem dX9_isWorks_27 : decode cX9_isWorks 27 = .ok (.getfield 224, 3) := dk_180 0 224 (dk_at dksX9_isWorks_1 3 rfl rfl)
theorem dX9_isWorks_30 : decode cX9_isWorks 30 = .ok (.iconst 1, 1) := dk_4 (dk_at dksX9_isWorks_1 6 rfl rfl)
theorem dX9_isWorks_31 : decode cX9_isWorks 31 = .ok (.iadd, 1) := dk_96 (dk_at dksX9_isWorks_1 7 rfl rfl)
theorem dX9_isWorks_32 : decode cX9_isWorks 32 = .ok (.putfield 224, 3) := dk_181 0 224 (dk_at dksX9_isWorks_1 8 rfl rfl)
theorem dX9_isWorks_35 : decode cX9_isWorks 35 = .ok (.aload_n 0, 1) := dk_42 (dk_at dksX9_isWorks_1 11 rfl rfl)
theorem dX9_isWorks_36 : decode cX9_isWorks 36 = .ok (.bipush 59, 2) := dk_16 59 (dk_at dksX9_isWorks_1 12 rfl rfl)
theorem dX9_isWorks_38 : decode cX9_isWorks 38 = .ok (.invokevirtual 227, 3) := dk_182 0 227 (dk_at dksX9_isWorks_1 14 rfl rfl)
theorem dX9_isWorks_41 : decode cX9_isWorks 41 = .ok (.istore_n 1, 1) := dk_60 (dk_at dksX9_isWorks_1 17 rfl rfl)
theorem dX9_isWorks_42 : decode cX9_isWorks 42 = .ok (.goto (-30), 3) := dk_167 255 226 (dk_at dksX9_isWorks_1 18 rfl rfl)
theorem dX9_isWorks_45 : decode cX9_isWorks 45 = .ok (.aload_n 0, 1) := dk_42 (dk_at dksX9_isWorks_1 21 rfl rfl)
theorem dX9_isWorks_46 : decode cX9_isWorks 46 = .ok (.getfield 218, 3) := dk_180 0 218 (dk_at dksX9_isWorks_2 0 rfl rfl)
theorem dX9_isWorks_49 : decode cX9_isWorks 49 = .ok (.aload_n 0, 1) := dk_42 (dk_at dksX9_isWorks_2 3 rfl rfl)
theorem dX9_isWorks_50 : decode cX9_isWorks 50 = .ok (.getfield 212, 3) := dk_180 0 212 (dk_at dksX9_isWorks_2 4 rfl rfl)
theorem dX9_isWorks_53 : decode cX9_isWorks 53 = .ok (.if_icmp .ne 7, 3) := dk_160 0 7 (dk_at dksX9_isWorks_2 7 rfl rfl)
theorem dX9_isWorks_56 : decode cX9_isWorks 56 = .ok (.iconst 1, 1) := dk_4 (dk_at dksX9_isWorks_2 10 rfl rfl)
theorem dX9_isWorks_57 : decode cX9_isWorks 57 = .ok (.goto 4, 3) := dk_167 0 4 (dk_at dksX9_isWorks_2 11 rfl rfl)
theorem dX9_isWorks_60 : decode cX9_isWorks 60 = .ok (.iconst 0, 1) := dk_3 (dk_at dksX9_isWorks_2 14 rfl rfl)
theorem dX9_isWorks_61 : decode cX9_isWorks 61 = .ok (.ireturn, 1) := dk_172 (dk_at dksX9_isWorks_2 15 rfl rfl)
abbrev cX9_textPart : ByteArray := prog_11_method_93_code
def yX9_textPart : MethodName := ⟨RX9, "textPart", "()Z"⟩
def dkwX9_textPart_5 : List UInt8 := [182, 0, 238, 172, 4, 172, 42, 89, 180, 0, 218, 4, 100, 181, 0, 218, 3, 172]
abbrev dktX9_textPart_5 : List UInt8 := dkwX9_textPart_5 ++ []
def dkwX9_textPart_4 : List UInt8 := [42, 3, 182, 0, 234, 172, 42, 4, 182, 0, 234, 172, 42, 3, 17, 0, 255, 182, 0, 238, 172, 42, 4, 6]
abbrev dktX9_textPart_4 : List UInt8 := dkwX9_textPart_4 ++ dktX9_textPart_5
def dkwX9_textPart_3 : List UInt8 := [170, 0, 0, 0, 0, 112, 0, 0, 0, 100, 0, 0, 0, 116, 0, 0, 0, 88, 0, 0, 0, 112, 0, 0, 0, 112, 0, 0, 0, 112, 0, 0, 0, 112, 0, 0, 0, 110, 0, 0, 0, 112, 0, 0, 0, 112, 0, 0, 0, 103, 0, 0, 0, 110, 0, 0, 0, 112, 0, 0, 0, 112, 0, 0, 0, 82, 0, 0, 0, 112, 0, 0, 0, 110, 0, 0, 0, 112, 0, 0, 0, 94]
abbrev dktX9_textPart_3 : List UInt8 := dkwX9_textPart_3 ++ dktX9_textPart_4
def dkwX9_textPart_2 : List UInt8 := [180, 0, 224, 46]
abbrev dktX9_textPart_2 : List UInt8 := dkwX9_textPart_2 ++ dktX9_textPart_3
def dkwX9_textPart_1 : List UInt8 := [180, 0, 19, 42, 180, 0, 218, 46, 79, 42, 89, 180, 0, 218, 4, 96, 181, 0, 218, 42, 180, 0, 40, 42]
abbrev dktX9_textPart_1 : List UInt8 := dkwX9_textPart_1 ++ dktX9_textPart_2
def dkwX9_textPart_0 : List UInt8 := [42, 180, 0, 218, 42, 180, 0, 212, 160, 0, 5, 3, 172, 42, 180, 0, 40, 42, 180, 0, 224, 42]
abbrev dktX9_textPart_0 : List UInt8 := dkwX9_textPart_0 ++ dktX9_textPart_1
theorem dksX9_textPart_0 : cX9_textPart.data.toList.drop 0 = dktX9_textPart_0 := by decide +kernel
theorem dksX9_textPart_1 : cX9_textPart.data.toList.drop 22 = dktX9_textPart_1 := dk_seg dksX9_textPart_0 22 rfl rfl
theorem dksX9_textPart_2 : cX9_textPart.data.toList.drop 46 = dktX9_textPart_2 := dk_seg dksX9_textPart_1 24 rfl rfl
theorem dksX9_textPart_3 : cX9_textPart.data.toList.drop 50 = dktX9_textPart_3 := dk_seg dksX9_textPart_2 4 rfl rfl
theorem dksX9_textPart_4 : cX9_textPart.data.toList.drop 132 = dktX9_textPart_4 := dk_seg dksX9_textPart_3 82 rfl rfl
theorem dksX9_textPart_5 : cX9_textPart.data.toList.drop 156 = dktX9_textPart_5 := dk_seg dksX9_textPart_4 24 rfl rfl
theorem dX9_textPart_0 : decode cX9_textPart 0 = .ok (.aload_n 0, 1) := dk_42 (dk_at dksX9_textPart_0 0 rfl rfl)
theorem dX9_textPart_1 : decode cX9_textPart 1 = .ok (.getfield 218, 3) := dk_180 0 218 (dk_at dksX9_textPart_0 1 rfl rfl)
theorem dX9_textPart_4 : decode cX9_textPart 4 = .ok (.aload_n 0, 1) := dk_42 (dk_at dksX9_textPart_0 4 rfl rfl)
theorem dX9_textPart_5 : decode cX9_textPart 5 = .ok (.getfield 212, 3) := dk_180 0 212 (dk_at dksX9_textPart_0 5 rfl rfl)
theorem dX9_textPart_8 : decode cX9_textPart 8 = .ok (.if_icmp .ne 5, 3) := dk_160 0 5 (dk_at dksX9_textPart_0 8 rfl rfl)
theorem dX9_textPart_11 : decode cX9_textPart 11 = .ok (.iconst 0, 1) := dk_3 (dk_at dksX9_textPart_0 11 rfl rfl)
theorem dX9_textPart_12 : decode cX9_textPart 12 = .ok (.ireturn, 1) := dk_172 (dk_at dksX9_textPart_0 12 rfl rfl)
theorem dX9_textPart_13 : decode cX9_textPart 13 = .ok (.aload_n 0, 1) := dk_42 (dk_at dksX9_textPart_0 13 rfl rfl)
theorem dX9_textPart_14 : decode cX9_textPart 14 = .ok (.getfield 40, 3) := dk_180 0 40 (dk_at dksX9_textPart_0 14 rfl rfl)
theorem dX9_textPart_17 : decode cX9_textPart 17 = .ok (.aload_n 0, 1) := dk_42 (dk_at dksX9_textPart_0 17 rfl rfl)
theorem dX9_textPart_18 : decode cX9_textPart 18 = .ok (.getfield 224, 3) := dk_180 0 224 (dk_at dksX9_textPart_0 18 rfl rfl)
theorem dX9_textPart_21 : decode cX9_textPart 21 = .ok (.aload_n 0, 1) := dk_42 (dk_at dksX9_textPart_0 21 rfl rfl)
theorem dX9_textPart_22 : decode cX9_textPart 22 = .ok (.getfield 19, 3) := dk_180 0 19 (dk_at dksX9_textPart_1 0 rfl rfl)
theorem dX9_textPart_25 : decode cX9_textPart 25 = .ok (.aload_n 0, 1) := dk_42 (dk_at dksX9_textPart_1 3 rfl rfl)
theorem dX9_textPart_26 : decode cX9_textPart 26 = .ok (.getfield 218, 3) := dk_180 0 218 (dk_at dksX9_textPart_1 4 rfl rfl)
theorem dX9_textPart_29 : decode cX9_textPart 29 = .ok (.iaload, 1) := dk_46 (dk_at dksX9_textPart_1 7 rfl rfl)
theorem dX9_textPart_30 : decode cX9_textPart 30 = .ok (.iastore, 1) := dk_79 (dk_at dksX9_textPart_1 8 rfl rfl)
theorem dX9_textPart_31 : decode cX9_textPart 31 = .ok (.aload_n 0, 1) := dk_42 (dk_at dksX9_textPart_1 9 rfl rfl)
theorem dX9_textPart_32 : decode cX9_textPart 32 = .ok (.dup, 1) := dk_89 (dk_at dksX9_textPart_1 10 rfl rfl)
theorem dX9_textPart_33 : decode cX9_textPart 33 = .ok (.getfield 218, 3) := dk_180 0 218 (dk_at dksX9_textPart_1 11 rfl rfl)
theorem dX9_textPart_36 : decode cX9_textPart 36 = .ok (.iconst 1, 1) := dk_4 (dk_at dksX9_textPart_1 14 rfl rfl)
theorem dX9_textPart_37 : decode cX9_textPart 37 = .ok (.iadd, 1) := dk_96 (dk_at dksX9_textPart_1 15 rfl rfl)
theorem dX9_textPart_38 : decode cX9_textPart 38 = .ok (.putfield 218, 3) := dk_181 0 218 (dk_at dksX9_textPart_1 16 rfl rfl)
theorem dX9_textPart_41 : decode cX9_textPart 41 = .ok (.aload_n 0, 1) := dk_42 (dk_at dksX9_textPart_1 19 rfl rfl)
theorem dX9_textPart_42 : decode cX9_textPart 42 = .ok (.getfield 40, 3) := dk_180 0 40 (dk_at dksX9_textPart_1 20 rfl rfl)
theorem dX9_textPart_45 : decode cX9_textPart 45 = .ok (.aload_n 0, 1) := dk_42 (dk_at dksX9_textPart_1 23 rfl rfl)
theorem dX9_textPart_46 : decode cX9_textPart 46 = .ok (.getfield 224, 3) := dk_180 0 224 (dk_at dksX9_textPart_2 0 rfl rfl)
theorem dX9_textPart_49 : decode cX9_textPart 49 = .ok (.iaload, 1) := dk_46 (dk_at dksX9_textPart_2 3 rfl rfl)
theorem dX9_textPart_50 : decode cX9_textPart 50 = .ok (.tableswitch 112 100 116 #[88, 112, 112, 112, 112, 110, 112, 112, 103, 110, 112, 112, 82, 112, 110, 112, 94], 82) := by decide +kernel
theorem dX9_textPart_132 : decode cX9_textPart 132 = .ok (.aload_n 0, 1) := dk_42 (dk_at dksX9_textPart_4 0 rfl rfl)
theorem dX9_textPart_133 : decode cX9_textPart 133 = .ok (.iconst 0, 1) := dk_3 (dk_at dksX9_textPart_4 1 rfl rfl)
theorem dX9_textPart_134 : decode cX9_textPart 134 = .ok (.invokevirtual 234, 3) := dk_182 0 234 (dk_at dksX9_textPart_4 2 rfl rfl)
theorem dX9_textPart_137 : decode cX9_textPart 137 = .ok (.ireturn, 1) := dk_172 (dk_at dksX9_textPart_4 5 rfl rfl)
theorem dX9_textPart_138 : decode cX9_textPart 138 = .ok (.aload_n 0, 1) := dk_42 (dk_at dksX9_textPart_4 6 rfl rfl)
theorem dX9_textPart_139 : decode cX9_textPart 139 = .ok (.iconst 1, 1) := dk_4 (dk_at dksX9_textPart_4 7 rfl rfl)
theorem dX9_textPart_140 : decode cX9_textPart 140 = .ok (.invokevirtual 234, 3) := dk_182 0 234 (dk_at dksX9_textPart_4 8 rfl rfl)
theorem dX9_textPart_143 : decode cX9_textPart 143 = .ok (.ireturn, 1) := dk_172 (dk_at dksX9_textPart_4 11 rfl rfl)
theorem dX9_textPart_144 : decode cX9_textPart 144 = .ok (.aload_n 0, 1) := dk_42 (dk_at dksX9_textPart_4 12 rfl rfl)
theorem dX9_textPart_145 : decode cX9_textPart 145 = .ok (.iconst 0, 1) := dk_3 (dk_at dksX9_textPart_4 13 rfl rfl)
theorem dX9_textPart_146 : decode cX9_textPart 146 = .ok (.sipush 255, 3) := dk_17 0 255 (dk_at dksX9_textPart_4 14 rfl rfl)
theorem dX9_textPart_149 : decode cX9_textPart 149 = .ok (.invokevirtual 238, 3) := dk_182 0 238 (dk_at dksX9_textPart_4 17 rfl rfl)
theorem dX9_textPart_152 : decode cX9_textPart 152 = .ok (.ireturn, 1) := dk_172 (dk_at dksX9_textPart_4 20 rfl rfl)
theorem dX9_textPart_153 : decode cX9_textPart 153 = .ok (.aload_n 0, 1) := dk_42 (dk_at dksX9_textPart_4 21 rfl rfl)
theorem dX9_textPart_154 : decode cX9_textPart 154 = .ok (.iconst 1, 1) := dk_4 (dk_at dksX9_textPart_4 22 rfl rfl)
theorem dX9_textPart_155 : decode cX9_textPart 155 = .ok (.iconst 3, 1) := dk_6 (dk_at dksX9_textPart_4 23 rfl rfl)
theorem dX9_textPart_156 : decode cX9_textPart 156 = .ok (.invokevirtual 238, 3) := dk_182 0 238 (dk_at dksX9_textPart_5 0 rfl rfl)
theorem dX9_textPart_159 : decode cX9_textPart 159 = .ok (.ireturn, 1) := dk_172 (dk_at dksX9_textPart_5 3 rfl rfl)
theorem dX9_textPart_160 : decode cX9_textPart 160 = .ok (.iconst 1, 1) := dk_4 (dk_at dksX9_textPart_5 4 rfl rfl)
theorem dX9_textPart_161 : decode cX9_textPart 161 = .ok (.ireturn, 1) := dk_172 (dk_at dksX9_textPart_5 5 rfl rfl)
theorem dX9_textPart_162 : decode cX9_textPart 162 = .ok (.aload_n 0, 1) := dk_42 (dk_at dksX9_textPart_5 6 rfl rfl)
theorem dX9_textPart_163 : decode cX9_textPart 163 = .ok (.dup, 1) := dk_89 (dk_at dksX9_textPart_5 7 rfl rfl)
theorem dX9_textPart_164 : decode cX9_textPart 164 = .ok (.getfield 218, 3) := dk_180 0 218 (dk_at dksX9_textPart_5 8 rfl rfl)
theorem dX9_textPart_167 : decode cX9_textPart 167 = .ok (.iconst 1, 1) := dk_4 (dk_at dksX9_textPart_5 11 rfl rfl)
theorem dX9_textPart_168 : decode cX9_textPart 168 = .ok (.isub, 1) := dk_100 (dk_at dksX9_textPart_5 12 rfl rfl)
theorem dX9_textPart_169 : decode cX9_textPart 169 = .ok (.putfield 218, 3) := dk_181 0 218 (dk_at dksX9_textPart_5 13 rfl rfl)
theorem dX9_textPart_172 : decode cX9_textPart 172 = .ok (.iconst 0, 1) := dk_3 (dk_at dksX9_textPart_5 16 rfl rfl)
theorem dX9_textPart_173 : decode cX9_textPart 173 = .ok (.ireturn, 1) := dk_172 (dk_at dksX9_textPart_5 17 rfl rfl)
abbrev cX9_assigns : ByteArray := prog_11_method_91_code
def yX9_assigns : MethodName := ⟨RX9, "assigns", "(Z)Z"⟩
def dkwX9_assigns_3 : List UInt8 := [180, 0, 215, 79, 4, 172]
abbrev dktX9_assigns_3 : List UInt8 := dkwX9_assigns_3 ++ []
def dkwX9_assigns_2 : List UInt8 := [3, 172, 42, 180, 0, 49, 42, 180, 0, 224, 28, 153, 0, 11, 42, 180, 0, 215, 116, 167, 0, 7, 42]
abbrev dktX9_assigns_2 : List UInt8 := dkwX9_assigns_2 ++ dktX9_assigns_3
def dkwX9_assigns_1 : List UInt8 := [167, 0, 4, 3, 61, 42, 28, 153, 0, 7, 4, 167, 0, 4, 3, 17, 0, 255, 182, 0, 221, 154, 0, 5]
abbrev dktX9_assigns_1 : List UInt8 := dkwX9_assigns_1 ++ dktX9_assigns_2
def dkwX9_assigns_0 : List UInt8 := [42, 182, 0, 230, 154, 0, 5, 3, 172, 27, 153, 0, 16, 42, 16, 45, 182, 0, 227, 153, 0, 7, 4]
abbrev dktX9_assigns_0 : List UInt8 := dkwX9_assigns_0 ++ dktX9_assigns_1
theorem dksX9_assigns_0 : cX9_assigns.data.toList.drop 0 = dktX9_assigns_0 := by decide +kernel
theorem dksX9_assigns_1 : cX9_assigns.data.toList.drop 23 = dktX9_assigns_1 := dk_seg dksX9_assigns_0 23 rfl rfl
theorem dksX9_assigns_2 : cX9_assigns.data.toList.drop 47 = dktX9_assigns_2 := dk_seg dksX9_assigns_1 24 rfl rfl
theorem dksX9_assigns_3 : cX9_assigns.data.toList.drop 70 = dktX9_assigns_3 := dk_seg dksX9_assigns_2 23 rfl rfl
theorem dX9_assigns_0 : decode cX9_assigns 0 = .ok (.aload_n 0, 1) := dk_42 (dk_at dksX9_assigns_0 0 rfl rfl)
theorem dX9_assigns_1 : decode cX9_assigns 1 = .ok (.invokevirtual 230, 3) := dk_182 0 230 (dk_at dksX9_assigns_0 1 rfl rfl)
theorem dX9_assigns_4 : decode cX9_assigns 4 = .ok (.ifCond .ne 5, 3) := dk_154 0 5 (dk_at dksX9_assigns_0 4 rfl rfl)
theorem dX9_assigns_7 : decode cX9_assigns 7 = .ok (.iconst 0, 1) := dk_3 (dk_at dksX9_assigns_0 7 rfl rfl)
theorem dX9_assigns_8 : decode cX9_assigns 8 = .ok (.ireturn, 1) := dk_172 (dk_at dksX9_assigns_0 8 rfl rfl)
theorem dX9_assigns_9 : decode cX9_assigns 9 = .ok (.iload_n 1, 1) := dk_27 (dk_at dksX9_assigns_0 9 rfl rfl)
theorem dX9_assigns_10 : decode cX9_assigns 10 = .ok (.ifCond .eq 16, 3) := dk_153 0 16 (dk_at dksX9_assigns_0 10 rfl rfl)
theorem dX9_assigns_13 : decode cX9_assigns 13 = .ok (.aload_n 0, 1) := dk_42 (dk_at dksX9_assigns_0 13 rfl rfl)
theorem dX9_assigns_14 : decode cX9_assigns 14 = .ok (.bipush 45, 2) := dk_16 45 (dk_at dksX9_assigns_0 14 rfl rfl)
theorem dX9_assigns_16 : decode cX9_assigns 16 = .ok (.invokevirtual 227, 3) := dk_182 0 227 (dk_at dksX9_assigns_0 16 rfl rfl)
theorem dX9_assigns_19 : decode cX9_assigns 19 = .ok (.ifCond .eq 7, 3) := dk_153 0 7 (dk_at dksX9_assigns_0 19 rfl rfl)
theorem dX9_assigns_22 : decode cX9_assigns 22 = .ok (.iconst 1, 1) := dk_4 (dk_at dksX9_assigns_0 22 rfl rfl)
theorem dX9_assigns_23 : decode cX9_assigns 23 = .ok (.goto 4, 3) := dk_167 0 4 (dk_at dksX9_assigns_1 0 rfl rfl)
theorem dX9_assigns_26 : decode cX9_assigns 26 = .ok (.iconst 0, 1) := dk_3 (dk_at dksX9_assigns_1 3 rfl rfl)
theorem dX9_assigns_27 : decode cX9_assigns 27 = .ok (.istore_n 2, 1) := dk_61 (dk_at dksX9_assigns_1 4 rfl rfl)
theorem dX9_assigns_28 : decode cX9_assigns 28 = .ok (.aload_n 0, 1) := dk_42 (dk_at dksX9_assigns_1 5 rfl rfl)
theorem dX9_assigns_29 : decode cX9_assigns 29 = .ok (.iload_n 2, 1) := dk_28 (dk_at dksX9_assigns_1 6 rfl rfl)
theorem dX9_assigns_30 : decode cX9_assigns 30 = .ok (.ifCond .eq 7, 3) := dk_153 0 7 (dk_at dksX9_assigns_1 7 rfl rfl)
theorem dX9_assigns_33 : decode cX9_assigns 33 = .ok (.iconst 1, 1) := dk_4 (dk_at dksX9_assigns_1 10 rfl rfl)
theorem dX9_assigns_34 : decode cX9_assigns 34 = .ok (.goto 4, 3) := dk_167 0 4 (dk_at dksX9_assigns_1 11 rfl rfl)
theorem dX9_assigns_37 : decode cX9_assigns 37 = .ok (.iconst 0, 1) := dk_3 (dk_at dksX9_assigns_1 14 rfl rfl)
theorem dX9_assigns_38 : decode cX9_assigns 38 = .ok (.sipush 255, 3) := dk_17 0 255 (dk_at dksX9_assigns_1 15 rfl rfl)
theorem dX9_assigns_41 : decode cX9_assigns 41 = .ok (.invokevirtual 221, 3) := dk_182 0 221 (dk_at dksX9_assigns_1 18 rfl rfl)
theorem dX9_assigns_44 : decode cX9_assigns 44 = .ok (.ifCond .ne 5, 3) := dk_154 0 5 (dk_at dksX9_assigns_1 21 rfl rfl)
theorem dX9_assigns_47 : decode cX9_assigns 47 = .ok (.iconst 0, 1) := dk_3 (dk_at dksX9_assigns_2 0 rfl rfl)
theorem dX9_assigns_48 : decode cX9_assigns 48 = .ok (.ireturn, 1) := dk_172 (dk_at dksX9_assigns_2 1 rfl rfl)
theorem dX9_assigns_49 : decode cX9_assigns 49 = .ok (.aload_n 0, 1) := dk_42 (dk_at dksX9_assigns_2 2 rfl rfl)
theorem dX9_assigns_50 : decode cX9_assigns 50 = .ok (.getfield 49, 3) := dk_180 0 49 (dk_at dksX9_assigns_2 3 rfl rfl)
theorem dX9_assigns_53 : decode cX9_assigns 53 = .ok (.aload_n 0, 1) := dk_42 (dk_at dksX9_assigns_2 6 rfl rfl)
theorem dX9_assigns_54 : decode cX9_assigns 54 = .ok (.getfield 224, 3) := dk_180 0 224 (dk_at dksX9_assigns_2 7 rfl rfl)
theorem dX9_assigns_57 : decode cX9_assigns 57 = .ok (.iload_n 2, 1) := dk_28 (dk_at dksX9_assigns_2 10 rfl rfl)
theorem dX9_assigns_58 : decode cX9_assigns 58 = .ok (.ifCond .eq 11, 3) := dk_153 0 11 (dk_at dksX9_assigns_2 11 rfl rfl)
theorem dX9_assigns_61 : decode cX9_assigns 61 = .ok (.aload_n 0, 1) := dk_42 (dk_at dksX9_assigns_2 14 rfl rfl)
theorem dX9_assigns_62 : decode cX9_assigns 62 = .ok (.getfield 215, 3) := dk_180 0 215 (dk_at dksX9_assigns_2 15 rfl rfl)
theorem dX9_assigns_65 : decode cX9_assigns 65 = .ok (.ineg, 1) := dk_116 (dk_at dksX9_assigns_2 18 rfl rfl)
theorem dX9_assigns_66 : decode cX9_assigns 66 = .ok (.goto 7, 3) := dk_167 0 7 (dk_at dksX9_assigns_2 19 rfl rfl)
theorem dX9_assigns_69 : decode cX9_assigns 69 = .ok (.aload_n 0, 1) := dk_42 (dk_at dksX9_assigns_2 22 rfl rfl)
theorem dX9_assigns_70 : decode cX9_assigns 70 = .ok (.getfield 215, 3) := dk_180 0 215 (dk_at dksX9_assigns_3 0 rfl rfl)
theorem dX9_assigns_73 : decode cX9_assigns 73 = .ok (.iastore, 1) := dk_79 (dk_at dksX9_assigns_3 3 rfl rfl)
theorem dX9_assigns_74 : decode cX9_assigns 74 = .ok (.iconst 1, 1) := dk_4 (dk_at dksX9_assigns_3 4 rfl rfl)
theorem dX9_assigns_75 : decode cX9_assigns 75 = .ok (.ireturn, 1) := dk_172 (dk_at dksX9_assigns_3 5 rfl rfl)
abbrev cX9_cell : ByteArray := prog_11_method_90_code
def yX9_cell : MethodName := ⟨RX9, "cell", "()Z"⟩
def dkwX9_cell_2 : List UInt8 := [180, 0, 46, 42, 180, 0, 224, 42, 180, 0, 215, 79, 42, 16, 61, 182, 0, 227, 172]
abbrev dktX9_cell_2 : List UInt8 := dkwX9_cell_2 ++ []
def dkwX9_cell_1 : List UInt8 := [79, 42, 16, 46, 182, 0, 227, 153, 0, 13, 42, 3, 16, 7, 182, 0, 221, 154, 0, 5, 3, 172, 42]
abbrev dktX9_cell_1 : List UInt8 := dkwX9_cell_1 ++ dktX9_cell_2
def dkwX9_cell_0 : List UInt8 := [42, 3, 16, 7, 182, 0, 221, 154, 0, 5, 3, 172, 42, 180, 0, 43, 42, 180, 0, 224, 42, 180, 0, 215]
abbrev dktX9_cell_0 : List UInt8 := dkwX9_cell_0 ++ dktX9_cell_1
theorem dksX9_cell_0 : cX9_cell.data.toList.drop 0 = dktX9_cell_0 := by decide +kernel
theorem dksX9_cell_1 : cX9_cell.data.toList.drop 24 = dktX9_cell_1 := dk_seg dksX9_cell_0 24 rfl rfl
theorem dksX9_cell_2 : cX9_cell.data.toList.drop 47 = dktX9_cell_2 := dk_seg dksX9_cell_1 23 rfl rfl
theorem dX9_cell_0 : decode cX9_cell 0 = .ok (.aload_n 0, 1) := dk_42 (dk_at dksX9_cell_0 0 rfl rfl)
theorem dX9_cell_1 : decode cX9_cell 1 = .ok (.iconst 0, 1) := dk_3 (dk_at dksX9_cell_0 1 rfl rfl)
theorem dX9_cell_2 : decode cX9_cell 2 = .ok (.bipush 7, 2) := dk_16 7 (dk_at dksX9_cell_0 2 rfl rfl)
theorem dX9_cell_4 : decode cX9_cell 4 = .ok (.invokevirtual 221, 3) := dk_182 0 221 (dk_at dksX9_cell_0 4 rfl rfl)
theorem dX9_cell_7 : decode cX9_cell 7 = .ok (.ifCond .ne 5, 3) := dk_154 0 5 (dk_at dksX9_cell_0 7 rfl rfl)
theorem dX9_cell_10 : decode cX9_cell 10 = .ok (.iconst 0, 1) := dk_3 (dk_at dksX9_cell_0 10 rfl rfl)
theorem dX9_cell_11 : decode cX9_cell 11 = .ok (.ireturn, 1) := dk_172 (dk_at dksX9_cell_0 11 rfl rfl)
theorem dX9_cell_12 : decode cX9_cell 12 = .ok (.aload_n 0, 1) := dk_42 (dk_at dksX9_cell_0 12 rfl rfl)
theorem dX9_cell_13 : decode cX9_cell 13 = .ok (.getfield 43, 3) := dk_180 0 43 (dk_at dksX9_cell_0 13 rfl rfl)
theorem dX9_cell_16 : decode cX9_cell 16 = .ok (.aload_n 0, 1) := dk_42 (dk_at dksX9_cell_0 16 rfl rfl)
theorem dX9_cell_17 : decode cX9_cell 17 = .ok (.getfield 224, 3) := dk_180 0 224 (dk_at dksX9_cell_0 17 rfl rfl)
theorem dX9_cell_20 : decode cX9_cell 20 = .ok (.aload_n 0, 1) := dk_42 (dk_at dksX9_cell_0 20 rfl rfl)
theorem dX9_cell_21 : decode cX9_cell 21 = .ok (.getfield 215, 3) := dk_180 0 215 (dk_at dksX9_cell_0 21 rfl rfl)
theorem dX9_cell_24 : decode cX9_cell 24 = .ok (.iastore, 1) := dk_79 (dk_at dksX9_cell_1 0 rfl rfl)
theorem dX9_cell_25 : decode cX9_cell 25 = .ok (.aload_n 0, 1) := dk_42 (dk_at dksX9_cell_1 1 rfl rfl)
theorem dX9_cell_26 : decode cX9_cell 26 = .ok (.bipush 46, 2) := dk_16 46 (dk_at dksX9_cell_1 2 rfl rfl)
theorem dX9_cell_28 : decode cX9_cell 28 = .ok (.invokevirtual 227, 3) := dk_182 0 227 (dk_at dksX9_cell_1 4 rfl rfl)
theorem dX9_cell_31 : decode cX9_cell 31 = .ok (.ifCond .eq 13, 3) := dk_153 0 13 (dk_at dksX9_cell_1 7 rfl rfl)
theorem dX9_cell_34 : decode cX9_cell 34 = .ok (.aload_n 0, 1) := dk_42 (dk_at dksX9_cell_1 10 rfl rfl)
theorem dX9_cell_35 : decode cX9_cell 35 = .ok (.iconst 0, 1) := dk_3 (dk_at dksX9_cell_1 11 rfl rfl)
theorem dX9_cell_36 : decode cX9_cell 36 = .ok (.bipush 7, 2) := dk_16 7 (dk_at dksX9_cell_1 12 rfl rfl)
theorem dX9_cell_38 : decode cX9_cell 38 = .ok (.invokevirtual 221, 3) := dk_182 0 221 (dk_at dksX9_cell_1 14 rfl rfl)
theorem dX9_cell_41 : decode cX9_cell 41 = .ok (.ifCond .ne 5, 3) := dk_154 0 5 (dk_at dksX9_cell_1 17 rfl rfl)
theorem dX9_cell_44 : decode cX9_cell 44 = .ok (.iconst 0, 1) := dk_3 (dk_at dksX9_cell_1 20 rfl rfl)
theorem dX9_cell_45 : decode cX9_cell 45 = .ok (.ireturn, 1) := dk_172 (dk_at dksX9_cell_1 21 rfl rfl)
theorem dX9_cell_46 : decode cX9_cell 46 = .ok (.aload_n 0, 1) := dk_42 (dk_at dksX9_cell_1 22 rfl rfl)
theorem dX9_cell_47 : decode cX9_cell 47 = .ok (.getfield 46, 3) := dk_180 0 46 (dk_at dksX9_cell_2 0 rfl rfl)
theorem dX9_cell_50 : decode cX9_cell 50 = .ok (.aload_n 0, 1) := dk_42 (dk_at dksX9_cell_2 3 rfl rfl)
theorem dX9_cell_51 : decode cX9_cell 51 = .ok (.getfield 224, 3) := dk_180 0 224 (dk_at dksX9_cell_2 4 rfl rfl)
theorem dX9_cell_54 : decode cX9_cell 54 = .ok (.aload_n 0, 1) := dk_42 (dk_at dksX9_cell_2 7 rfl rfl)
theorem dX9_cell_55 : decode cX9_cell 55 = .ok (.getfield 215, 3) := dk_180 0 215 (dk_at dksX9_cell_2 8 rfl rfl)
theorem dX9_cell_58 : decode cX9_cell 58 = .ok (.iastore, 1) := dk_79 (dk_at dksX9_cell_2 11 rfl rfl)
theorem dX9_cell_59 : decode cX9_cell 59 = .ok (.aload_n 0, 1) := dk_42 (dk_at dksX9_cell_2 12 rfl rfl)
theorem dX9_cell_60 : decode cX9_cell 60 = .ok (.bipush 61, 2) := dk_16 61 (dk_at dksX9_cell_2 13 rfl rfl)
theorem dX9_cell_62 : decode cX9_cell 62 = .ok (.invokevirtual 227, 3) := dk_182 0 227 (dk_at dksX9_cell_2 15 rfl rfl)
theorem dX9_cell_65 : decode cX9_cell 65 = .ok (.ireturn, 1) := dk_172 (dk_at dksX9_cell_2 18 rfl rfl)
abbrev cX9_reads : ByteArray := prog_11_method_88_code
def yX9_reads : MethodName := ⟨RX9, "reads", "(II)Z"⟩
def dkwX9_reads_7 : List UInt8 := [158, 0, 7, 4, 167, 0, 4, 3, 172]
abbrev dktX9_reads_7 : List UInt8 := dkwX9_reads_7 ++ []
def dkwX9_reads_6 : List UInt8 := [89, 180, 0, 218, 21, 4, 153, 0, 7, 4, 167, 0, 4, 3, 96, 181, 0, 218, 167, 255, 107, 29]
abbrev dktX9_reads_6 : List UInt8 := dkwX9_reads_6 ++ dktX9_reads_7
def dkwX9_reads_5 : List UInt8 := [167, 0, 7, 42, 180, 0, 215, 181, 0, 215, 29, 21, 4, 153, 0, 7, 4, 167, 0, 4, 3, 96, 62, 42]
abbrev dktX9_reads_5 : List UInt8 := dkwX9_reads_5 ++ dktX9_reads_6
def dkwX9_reads_4 : List UInt8 := [4, 167, 0, 4, 3, 54, 4, 42, 21, 4, 153, 0, 16, 16, 10, 42, 180, 0, 215, 104, 21, 5, 96]
abbrev dktX9_reads_4 : List UInt8 := dkwX9_reads_4 ++ dktX9_reads_5
def dkwX9_reads_3 : List UInt8 := [167, 0, 10, 42, 180, 0, 215, 158, 0, 21, 16, 10, 42, 180, 0, 215, 104, 21, 5, 96, 28, 163, 0, 7]
abbrev dktX9_reads_3 : List UInt8 := dkwX9_reads_3 ++ dktX9_reads_4
def dkwX9_reads_2 : List UInt8 := [16, 9, 184, 0, 56, 153, 0, 46, 29, 154, 0, 17, 21, 5, 27, 162, 0, 18, 21, 5, 158, 0, 31]
abbrev dktX9_reads_2 : List UInt8 := dkwX9_reads_2 ++ dktX9_reads_3
def dkwX9_reads_1 : List UInt8 := [162, 0, 18, 42, 180, 0, 19, 42, 180, 0, 218, 46, 16, 48, 100, 167, 0, 4, 2, 54, 5, 21, 5, 3]
abbrev dktX9_reads_1 : List UInt8 := dkwX9_reads_1 ++ dktX9_reads_2
def dkwX9_reads_0 : List UInt8 := [3, 62, 42, 3, 181, 0, 215, 4, 54, 4, 21, 4, 153, 0, 150, 42, 180, 0, 218, 42, 180, 0, 212]
abbrev dktX9_reads_0 : List UInt8 := dkwX9_reads_0 ++ dktX9_reads_1
theorem dksX9_reads_0 : cX9_reads.data.toList.drop 0 = dktX9_reads_0 := by decide +kernel
theorem dksX9_reads_1 : cX9_reads.data.toList.drop 23 = dktX9_reads_1 := dk_seg dksX9_reads_0 23 rfl rfl
theorem dksX9_reads_2 : cX9_reads.data.toList.drop 47 = dktX9_reads_2 := dk_seg dksX9_reads_1 24 rfl rfl
theorem dksX9_reads_3 : cX9_reads.data.toList.drop 70 = dktX9_reads_3 := dk_seg dksX9_reads_2 23 rfl rfl
theorem dksX9_reads_4 : cX9_reads.data.toList.drop 94 = dktX9_reads_4 := dk_seg dksX9_reads_3 24 rfl rfl
theorem dksX9_reads_5 : cX9_reads.data.toList.drop 117 = dktX9_reads_5 := dk_seg dksX9_reads_4 23 rfl rfl
theorem dksX9_reads_6 : cX9_reads.data.toList.drop 141 = dktX9_reads_6 := dk_seg dksX9_reads_5 24 rfl rfl
theorem dksX9_reads_7 : cX9_reads.data.toList.drop 163 = dktX9_reads_7 := dk_seg dksX9_reads_6 22 rfl rfl
theorem dX9_reads_0 : decode cX9_reads 0 = .ok (.iconst 0, 1) := dk_3 (dk_at dksX9_reads_0 0 rfl rfl)
theorem dX9_reads_1 : decode cX9_reads 1 = .ok (.istore_n 3, 1) := dk_62 (dk_at dksX9_reads_0 1 rfl rfl)
theorem dX9_reads_2 : decode cX9_reads 2 = .ok (.aload_n 0, 1) := dk_42 (dk_at dksX9_reads_0 2 rfl rfl)
theorem dX9_reads_3 : decode cX9_reads 3 = .ok (.iconst 0, 1) := dk_3 (dk_at dksX9_reads_0 3 rfl rfl)
theorem dX9_reads_4 : decode cX9_reads 4 = .ok (.putfield 215, 3) := dk_181 0 215 (dk_at dksX9_reads_0 4 rfl rfl)
theorem dX9_reads_7 : decode cX9_reads 7 = .ok (.iconst 1, 1) := dk_4 (dk_at dksX9_reads_0 7 rfl rfl)
theorem dX9_reads_8 : decode cX9_reads 8 = .ok (.istore 4, 2) := dk_54 4 (dk_at dksX9_reads_0 8 rfl rfl)
theorem dX9_reads_10 : decode cX9_reads 10 = .ok (.iload 4, 2) := dk_21 4 (dk_at dksX9_reads_0 10 rfl rfl)
theorem dX9_reads_12 : decode cX9_reads 12 = .ok (.ifCond .eq 150, 3) := dk_153 0 150 (dk_at dksX9_reads_0 12 rfl rfl)
theorem dX9_reads_15 : decode cX9_reads 15 = .ok (.aload_n 0, 1) := dk_42 (dk_at dksX9_reads_0 15 rfl rfl)
theorem dX9_reads_16 : decode cX9_reads 16 = .ok (.getfield 218, 3) := dk_180 0 218 (dk_at dksX9_reads_0 16 rfl rfl)
theorem dX9_reads_19 : decode cX9_reads 19 = .ok (.aload_n 0, 1) := dk_42 (dk_at dksX9_reads_0 19 rfl rfl)
theorem dX9_reads_20 : decode cX9_reads 20 = .ok (.getfield 212, 3) := dk_180 0 212 (dk_at dksX9_reads_0 20 rfl rfl)
theorem dX9_reads_23 : decode cX9_reads 23 = .ok (.if_icmp .ge 18, 3) := dk_162 0 18 (dk_at dksX9_reads_1 0 rfl rfl)
theorem dX9_reads_26 : decode cX9_reads 26 = .ok (.aload_n 0, 1) := dk_42 (dk_at dksX9_reads_1 3 rfl rfl)
theorem dX9_reads_27 : decode cX9_reads 27 = .ok (.getfield 19, 3) := dk_180 0 19 (dk_at dksX9_reads_1 4 rfl rfl)
theorem dX9_reads_30 : decode cX9_reads 30 = .ok (.aload_n 0, 1) := dk_42 (dk_at dksX9_reads_1 7 rfl rfl)
theorem dX9_reads_31 : decode cX9_reads 31 = .ok (.getfield 218, 3) := dk_180 0 218 (dk_at dksX9_reads_1 8 rfl rfl)
theorem dX9_reads_34 : decode cX9_reads 34 = .ok (.iaload, 1) := dk_46 (dk_at dksX9_reads_1 11 rfl rfl)
theorem dX9_reads_35 : decode cX9_reads 35 = .ok (.bipush 48, 2) := dk_16 48 (dk_at dksX9_reads_1 12 rfl rfl)
theorem dX9_reads_37 : decode cX9_reads 37 = .ok (.isub, 1) := dk_100 (dk_at dksX9_reads_1 14 rfl rfl)
theorem dX9_reads_38 : decode cX9_reads 38 = .ok (.goto 4, 3) := dk_167 0 4 (dk_at dksX9_reads_1 15 rfl rfl)
theorem dX9_reads_41 : decode cX9_reads 41 = .ok (.iconst (-1), 1) := dk_2 (dk_at dksX9_reads_1 18 rfl rfl)
theorem dX9_reads_42 : decode cX9_reads 42 = .ok (.istore 5, 2) := dk_54 5 (dk_at dksX9_reads_1 19 rfl rfl)
theorem dX9_reads_44 : decode cX9_reads 44 = .ok (.iload 5, 2) := dk_21 5 (dk_at dksX9_reads_1 21 rfl rfl)
theorem dX9_reads_46 : decode cX9_reads 46 = .ok (.iconst 0, 1) := dk_3 (dk_at dksX9_reads_1 23 rfl rfl)
theorem dX9_reads_47 : decode cX9_reads 47 = .ok (.bipush 9, 2) := dk_16 9 (dk_at dksX9_reads_2 0 rfl rfl)
theorem dX9_reads_49 : decode cX9_reads 49 = .ok (.invokestatic 56, 3) := dk_184 0 56 (dk_at dksX9_reads_2 2 rfl rfl)
theorem dX9_reads_52 : decode cX9_reads 52 = .ok (.ifCond .eq 46, 3) := dk_153 0 46 (dk_at dksX9_reads_2 5 rfl rfl)
theorem dX9_reads_55 : decode cX9_reads 55 = .ok (.iload_n 3, 1) := dk_29 (dk_at dksX9_reads_2 8 rfl rfl)
theorem dX9_reads_56 : decode cX9_reads 56 = .ok (.ifCond .ne 17, 3) := dk_154 0 17 (dk_at dksX9_reads_2 9 rfl rfl)
theorem dX9_reads_59 : decode cX9_reads 59 = .ok (.iload 5, 2) := dk_21 5 (dk_at dksX9_reads_2 12 rfl rfl)
theorem dX9_reads_61 : decode cX9_reads 61 = .ok (.iload_n 1, 1) := dk_27 (dk_at dksX9_reads_2 14 rfl rfl)
theorem dX9_reads_62 : decode cX9_reads 62 = .ok (.if_icmp .ge 18, 3) := dk_162 0 18 (dk_at dksX9_reads_2 15 rfl rfl)
theorem dX9_reads_65 : decode cX9_reads 65 = .ok (.iload 5, 2) := dk_21 5 (dk_at dksX9_reads_2 18 rfl rfl)
theorem dX9_reads_67 : decode cX9_reads 67 = .ok (.ifCond .le 31, 3) := dk_158 0 31 (dk_at dksX9_reads_2 20 rfl rfl)
theorem dX9_reads_70 : decode cX9_reads 70 = .ok (.goto 10, 3) := dk_167 0 10 (dk_at dksX9_reads_3 0 rfl rfl)
theorem dX9_reads_73 : decode cX9_reads 73 = .ok (.aload_n 0, 1) := dk_42 (dk_at dksX9_reads_3 3 rfl rfl)
theorem dX9_reads_74 : decode cX9_reads 74 = .ok (.getfield 215, 3) := dk_180 0 215 (dk_at dksX9_reads_3 4 rfl rfl)
theorem dX9_reads_77 : decode cX9_reads 77 = .ok (.ifCond .le 21, 3) := dk_158 0 21 (dk_at dksX9_reads_3 7 rfl rfl)
theorem dX9_reads_80 : decode cX9_reads 80 = .ok (.bipush 10, 2) := dk_16 10 (dk_at dksX9_reads_3 10 rfl rfl)
theorem dX9_reads_82 : decode cX9_reads 82 = .ok (.aload_n 0, 1) := dk_42 (dk_at dksX9_reads_3 12 rfl rfl)
theorem dX9_reads_83 : decode cX9_reads 83 = .ok (.getfield 215, 3) := dk_180 0 215 (dk_at dksX9_reads_3 13 rfl rfl)
theorem dX9_reads_86 : decode cX9_reads 86 = .ok (.imul, 1) := dk_104 (dk_at dksX9_reads_3 16 rfl rfl)
theorem dX9_reads_87 : decode cX9_reads 87 = .ok (.iload 5, 2) := dk_21 5 (dk_at dksX9_reads_3 17 rfl rfl)
theorem dX9_reads_89 : decode cX9_reads 89 = .ok (.iadd, 1) := dk_96 (dk_at dksX9_reads_3 19 rfl rfl)
theorem dX9_reads_90 : decode cX9_reads 90 = .ok (.iload_n 2, 1) := dk_28 (dk_at dksX9_reads_3 20 rfl rfl)
theorem dX9_reads_91 : decode cX9_reads 91 = .ok (.if_icmp .gt 7, 3) := dk_163 0 7 (dk_at dksX9_reads_3 21 rfl rfl)
theorem dX9_reads_94 : decode cX9_reads 94 = .ok (.iconst 1, 1) := dk_4 (dk_at dksX9_reads_4 0 rfl rfl)
theorem dX9_reads_95 : decode cX9_reads 95 = .ok (.goto 4, 3) := dk_167 0 4 (dk_at dksX9_reads_4 1 rfl rfl)
theorem dX9_reads_98 : decode cX9_reads 98 = .ok (.iconst 0, 1) := dk_3 (dk_at dksX9_reads_4 4 rfl rfl)
theorem dX9_reads_99 : decode cX9_reads 99 = .ok (.istore 4, 2) := dk_54 4 (dk_at dksX9_reads_4 5 rfl rfl)
theorem dX9_reads_101 : decode cX9_reads 101 = .ok (.aload_n 0, 1) := dk_42 (dk_at dksX9_reads_4 7 rfl rfl)
theorem dX9_reads_102 : decode cX9_reads 102 = .ok (.iload 4, 2) := dk_21 4 (dk_at dksX9_reads_4 8 rfl rfl)
theorem dX9_reads_104 : decode cX9_reads 104 = .ok (.ifCond .eq 16, 3) := dk_153 0 16 (dk_at dksX9_reads_4 10 rfl rfl)
theorem dX9_reads_107 : decode cX9_reads 107 = .ok (.bipush 10, 2) := dk_16 10 (dk_at dksX9_reads_4 13 rfl rfl)
theorem dX9_reads_109 : decode cX9_reads 109 = .ok (.aload_n 0, 1) := dk_42 (dk_at dksX9_reads_4 15 rfl rfl)
theorem dX9_reads_110 : decode cX9_reads 110 = .ok (.getfield 215, 3) := dk_180 0 215 (dk_at dksX9_reads_4 16 rfl rfl)
theorem dX9_reads_113 : decode cX9_reads 113 = .ok (.imul, 1) := dk_104 (dk_at dksX9_reads_4 19 rfl rfl)
theorem dX9_reads_114 : decode cX9_reads 114 = .ok (.iload 5, 2) := dk_21 5 (dk_at dksX9_reads_4 20 rfl rfl)
theorem dX9_reads_116 : decode cX9_reads 116 = .ok (.iadd, 1) := dk_96 (dk_at dksX9_reads_4 22 rfl rfl)
theorem dX9_reads_117 : decode cX9_reads 117 = .ok (.goto 7, 3) := dk_167 0 7 (dk_at dksX9_reads_5 0 rfl rfl)
theorem dX9_reads_120 : decode cX9_reads 120 = .ok (.aload_n 0, 1) := dk_42 (dk_at dksX9_reads_5 3 rfl rfl)
theorem dX9_reads_121 : decode cX9_reads 121 = .ok (.getfield 215, 3) := dk_180 0 215 (dk_at dksX9_reads_5 4 rfl rfl)
theorem dX9_reads_124 : decode cX9_reads 124 = .ok (.putfield 215, 3) := dk_181 0 215 (dk_at dksX9_reads_5 7 rfl rfl)
theorem dX9_reads_127 : decode cX9_reads 127 = .ok (.iload_n 3, 1) := dk_29 (dk_at dksX9_reads_5 10 rfl rfl)
theorem dX9_reads_128 : decode cX9_reads 128 = .ok (.iload 4, 2) := dk_21 4 (dk_at dksX9_reads_5 11 rfl rfl)
theorem dX9_reads_130 : decode cX9_reads 130 = .ok (.ifCond .eq 7, 3) := dk_153 0 7 (dk_at dksX9_reads_5 13 rfl rfl)
theorem dX9_reads_133 : decode cX9_reads 133 = .ok (.iconst 1, 1) := dk_4 (dk_at dksX9_reads_5 16 rfl rfl)
theorem dX9_reads_134 : decode cX9_reads 134 = .ok (.goto 4, 3) := dk_167 0 4 (dk_at dksX9_reads_5 17 rfl rfl)
theorem dX9_reads_137 : decode cX9_reads 137 = .ok (.iconst 0, 1) := dk_3 (dk_at dksX9_reads_5 20 rfl rfl)
theorem dX9_reads_138 : decode cX9_reads 138 = .ok (.iadd, 1) := dk_96 (dk_at dksX9_reads_5 21 rfl rfl)
theorem dX9_reads_139 : decode cX9_reads 139 = .ok (.istore_n 3, 1) := dk_62 (dk_at dksX9_reads_5 22 rfl rfl)
theorem dX9_reads_140 : decode cX9_reads 140 = .ok (.aload_n 0, 1) := dk_42 (dk_at dksX9_reads_5 23 rfl rfl)
theorem dX9_reads_141 : decode cX9_reads 141 = .ok (.dup, 1) := dk_89 (dk_at dksX9_reads_6 0 rfl rfl)
theorem dX9_reads_142 : decode cX9_reads 142 = .ok (.getfield 218, 3) := dk_180 0 218 (dk_at dksX9_reads_6 1 rfl rfl)
theorem dX9_reads_145 : decode cX9_reads 145 = .ok (.iload 4, 2) := dk_21 4 (dk_at dksX9_reads_6 4 rfl rfl)
theorem dX9_reads_147 : decode cX9_reads 147 = .ok (.ifCond .eq 7, 3) := dk_153 0 7 (dk_at dksX9_reads_6 6 rfl rfl)
theorem dX9_reads_150 : decode cX9_reads 150 = .ok (.iconst 1, 1) := dk_4 (dk_at dksX9_reads_6 9 rfl rfl)
theorem dX9_reads_151 : decode cX9_reads 151 = .ok (.goto 4, 3) := dk_167 0 4 (dk_at dksX9_reads_6 10 rfl rfl)
theorem dX9_reads_154 : decode cX9_reads 154 = .ok (.iconst 0, 1) := dk_3 (dk_at dksX9_reads_6 13 rfl rfl)
theorem dX9_reads_155 : decode cX9_reads 155 = .ok (.iadd, 1) := dk_96 (dk_at dksX9_reads_6 14 rfl rfl)
theorem dX9_reads_156 : decode cX9_reads 156 = .ok (.putfield 218, 3) := dk_181 0 218 (dk_at dksX9_reads_6 15 rfl rfl)
theorem dX9_reads_159 : decode cX9_reads 159 = .ok (.goto (-149), 3) := dk_167 255 107 (dk_at dksX9_reads_6 18 rfl rfl)
theorem dX9_reads_162 : decode cX9_reads 162 = .ok (.iload_n 3, 1) := dk_29 (dk_at dksX9_reads_6 21 rfl rfl)
theorem dX9_reads_163 : decode cX9_reads 163 = .ok (.ifCond .le 7, 3) := dk_158 0 7 (dk_at dksX9_reads_7 0 rfl rfl)
theorem dX9_reads_166 : decode cX9_reads 166 = .ok (.iconst 1, 1) := dk_4 (dk_at dksX9_reads_7 3 rfl rfl)
theorem dX9_reads_167 : decode cX9_reads 167 = .ok (.goto 4, 3) := dk_167 0 4 (dk_at dksX9_reads_7 4 rfl rfl)
theorem dX9_reads_170 : decode cX9_reads 170 = .ok (.iconst 0, 1) := dk_3 (dk_at dksX9_reads_7 7 rfl rfl)
theorem dX9_reads_171 : decode cX9_reads 171 = .ok (.ireturn, 1) := dk_172 (dk_at dksX9_reads_7 8 rfl rfl)
abbrev cX9_sign : ByteArray := prog_11_method_89_code
def yX9_sign : MethodName := ⟨RX9, "sign", "(I)Z"⟩
def dkwX9_sign_1 : List UInt8 := [3, 172, 42, 89, 180, 0, 218, 4, 96, 181, 0, 218, 4, 172]
abbrev dktX9_sign_1 : List UInt8 := dkwX9_sign_1 ++ []
def dkwX9_sign_0 : List UInt8 := [42, 180, 0, 218, 42, 180, 0, 212, 159, 0, 16, 42, 180, 0, 19, 42, 180, 0, 218, 46, 27, 159, 0, 5]
abbrev dktX9_sign_0 : List UInt8 := dkwX9_sign_0 ++ dktX9_sign_1
theorem dksX9_sign_0 : cX9_sign.data.toList.drop 0 = dktX9_sign_0 := by decide +kernel
theorem dksX9_sign_1 : cX9_sign.data.toList.drop 24 = dktX9_sign_1 := dk_seg dksX9_sign_0 24 rfl rfl
theorem dX9_sign_0 : decode cX9_sign 0 = .ok (.aload_n 0, 1) := dk_42 (dk_at dksX9_sign_0 0 rfl rfl)
theorem dX9_sign_1 : decode cX9_sign 1 = .ok (.getfield 218, 3) := dk_180 0 218 (dk_at dksX9_sign_0 1 rfl rfl)
theorem dX9_sign_4 : decode cX9_sign 4 = .ok (.aload_n 0, 1) := dk_42 (dk_at dksX9_sign_0 4 rfl rfl)
theorem dX9_sign_5 : decode cX9_sign 5 = .ok (.getfield 212, 3) := dk_180 0 212 (dk_at dksX9_sign_0 5 rfl rfl)
theorem dX9_sign_8 : decode cX9_sign 8 = .ok (.if_icmp .eq 16, 3) := dk_159 0 16 (dk_at dksX9_sign_0 8 rfl rfl)
theorem dX9_sign_11 : decode cX9_sign 11 = .ok (.aload_n 0, 1) := dk_42 (dk_at dksX9_sign_0 11 rfl rfl)
theorem dX9_sign_12 : decode cX9_sign 12 = .ok (.getfield 19, 3) := dk_180 0 19 (dk_at dksX9_sign_0 12 rfl rfl)
theorem dX9_sign_15 : decode cX9_sign 15 = .ok (.aload_n 0, 1) := dk_42 (dk_at dksX9_sign_0 15 rfl rfl)
theorem dX9_sign_16 : decode cX9_sign 16 = .ok (.getfield 218, 3) := dk_180 0 218 (dk_at dksX9_sign_0 16 rfl rfl)
theorem dX9_sign_19 : decode cX9_sign 19 = .ok (.iaload, 1) := dk_46 (dk_at dksX9_sign_0 19 rfl rfl)
theorem dX9_sign_20 : decode cX9_sign 20 = .ok (.iload_n 1, 1) := dk_27 (dk_at dksX9_sign_0 20 rfl rfl)
theorem dX9_sign_21 : decode cX9_sign 21 = .ok (.if_icmp .eq 5, 3) := dk_159 0 5 (dk_at dksX9_sign_0 21 rfl rfl)
theorem dX9_sign_24 : decode cX9_sign 24 = .ok (.iconst 0, 1) := dk_3 (dk_at dksX9_sign_1 0 rfl rfl)
theorem dX9_sign_25 : decode cX9_sign 25 = .ok (.ireturn, 1) := dk_172 (dk_at dksX9_sign_1 1 rfl rfl)
theorem dX9_sign_26 : decode cX9_sign 26 = .ok (.aload_n 0, 1) := dk_42 (dk_at dksX9_sign_1 2 rfl rfl)
theorem dX9_sign_27 : decode cX9_sign 27 = .ok (.dup, 1) := dk_89 (dk_at dksX9_sign_1 3 rfl rfl)
theorem dX9_sign_28 : decode cX9_sign 28 = .ok (.getfield 218, 3) := dk_180 0 218 (dk_at dksX9_sign_1 4 rfl rfl)
theorem dX9_sign_31 : decode cX9_sign 31 = .ok (.iconst 1, 1) := dk_4 (dk_at dksX9_sign_1 7 rfl rfl)
theorem dX9_sign_32 : decode cX9_sign 32 = .ok (.iadd, 1) := dk_96 (dk_at dksX9_sign_1 8 rfl rfl)
theorem dX9_sign_33 : decode cX9_sign 33 = .ok (.putfield 218, 3) := dk_181 0 218 (dk_at dksX9_sign_1 9 rfl rfl)
theorem dX9_sign_36 : decode cX9_sign 36 = .ok (.iconst 1, 1) := dk_4 (dk_at dksX9_sign_1 12 rfl rfl)
theorem dX9_sign_37 : decode cX9_sign 37 = .ok (.ireturn, 1) := dk_172 (dk_at dksX9_sign_1 13 rfl rfl)
abbrev cX9_single : ByteArray := prog_11_method_92_code
def yX9_single : MethodName := ⟨RX9, "single", "(II)Z"⟩
def dkwX9_single_1 : List UInt8 := [4, 172]
abbrev dktX9_single_1 : List UInt8 := dkwX9_single_1 ++ []
def dkwX9_single_0 : List UInt8 := [42, 27, 28, 182, 0, 221, 154, 0, 5, 3, 172, 42, 180, 0, 43, 42, 180, 0, 224, 42, 180, 0, 215, 79]
abbrev dktX9_single_0 : List UInt8 := dkwX9_single_0 ++ dktX9_single_1
theorem dksX9_single_0 : cX9_single.data.toList.drop 0 = dktX9_single_0 := by decide +kernel
theorem dksX9_single_1 : cX9_single.data.toList.drop 24 = dktX9_single_1 := dk_seg dksX9_single_0 24 rfl rfl
theorem dX9_single_0 : decode cX9_single 0 = .ok (.aload_n 0, 1) := dk_42 (dk_at dksX9_single_0 0 rfl rfl)
theorem dX9_single_1 : decode cX9_single 1 = .ok (.iload_n 1, 1) := dk_27 (dk_at dksX9_single_0 1 rfl rfl)
theorem dX9_single_2 : decode cX9_single 2 = .ok (.iload_n 2, 1) := dk_28 (dk_at dksX9_single_0 2 rfl rfl)
theorem dX9_single_3 : decode cX9_single 3 = .ok (.invokevirtual 221, 3) := dk_182 0 221 (dk_at dksX9_single_0 3 rfl rfl)
theorem dX9_single_6 : decode cX9_single 6 = .ok (.ifCond .ne 5, 3) := dk_154 0 5 (dk_at dksX9_single_0 6 rfl rfl)
theorem dX9_single_9 : decode cX9_single 9 = .ok (.iconst 0, 1) := dk_3 (dk_at dksX9_single_0 9 rfl rfl)
theorem dX9_single_10 : decode cX9_single 10 = .ok (.ireturn, 1) := dk_172 (dk_at dksX9_single_0 10 rfl rfl)
theorem dX9_single_11 : decode cX9_single 11 = .ok (.aload_n 0, 1) := dk_42 (dk_at dksX9_single_0 11 rfl rfl)
theorem dX9_single_12 : decode cX9_single 12 = .ok (.getfield 43, 3) := dk_180 0 43 (dk_at dksX9_single_0 12 rfl rfl)
theorem dX9_single_15 : decode cX9_single 15 = .ok (.aload_n 0, 1) := dk_42 (dk_at dksX9_single_0 15 rfl rfl)
theorem dX9_single_16 : decode cX9_single 16 = .ok (.getfield 224, 3) := dk_180 0 224 (dk_at dksX9_single_0 16 rfl rfl)
theorem dX9_single_19 : decode cX9_single 19 = .ok (.aload_n 0, 1) := dk_42 (dk_at dksX9_single_0 19 rfl rfl)
theorem dX9_single_20 : decode cX9_single 20 = .ok (.getfield 215, 3) := dk_180 0 215 (dk_at dksX9_single_0 20 rfl rfl)
theorem dX9_single_23 : decode cX9_single 23 = .ok (.iastore, 1) := dk_79 (dk_at dksX9_single_0 23 rfl rfl)
theorem dX9_single_24 : decode cX9_single 24 = .ok (.iconst 1, 1) := dk_4 (dk_at dksX9_single_1 0 rfl rfl)
theorem dX9_single_25 : decode cX9_single 25 = .ok (.ireturn, 1) := dk_172 (dk_at dksX9_single_1 1 rfl rfl)
abbrev cX9_work : ByteArray := prog_11_method_97_code
def yX9_work : MethodName := ⟨RX9, "work", "()I"⟩
def dkwX9_work_4 : List UInt8 := [180, 0, 7, 16, 67, 28, 79, 42, 3, 181, 0, 212, 27, 172]
abbrev dktX9_work_4 : List UInt8 := dkwX9_work_4 ++ []
def dkwX9_work_3 : List UInt8 := [167, 0, 4, 3, 79, 42, 180, 0, 7, 16, 66, 28, 158, 0, 7, 27, 167, 0, 4, 3, 79, 42]
abbrev dktX9_work_3 : List UInt8 := dkwX9_work_3 ++ dktX9_work_4
def dkwX9_work_2 : List UInt8 := [154, 0, 7, 4, 167, 0, 4, 3, 96, 60, 167, 255, 226, 42, 180, 0, 7, 16, 65, 28, 158, 0, 7, 4]
abbrev dktX9_work_2 : List UInt8 := dkwX9_work_2 ++ dktX9_work_3
def dkwX9_work_1 : List UInt8 := [3, 61, 27, 42, 180, 0, 224, 162, 0, 28, 28, 154, 0, 24, 42, 27, 182, 0, 247, 61, 27, 28]
abbrev dktX9_work_1 : List UInt8 := dkwX9_work_1 ++ dktX9_work_2
def dkwX9_work_0 : List UInt8 := [42, 3, 181, 0, 52, 42, 182, 0, 244, 154, 0, 9, 42, 4, 182, 0, 63, 172, 42, 182, 0, 75, 3, 60]
abbrev dktX9_work_0 : List UInt8 := dkwX9_work_0 ++ dktX9_work_1
theorem dksX9_work_0 : cX9_work.data.toList.drop 0 = dktX9_work_0 := by decide +kernel
theorem dksX9_work_1 : cX9_work.data.toList.drop 24 = dktX9_work_1 := dk_seg dksX9_work_0 24 rfl rfl
theorem dksX9_work_2 : cX9_work.data.toList.drop 46 = dktX9_work_2 := dk_seg dksX9_work_1 22 rfl rfl
theorem dksX9_work_3 : cX9_work.data.toList.drop 70 = dktX9_work_3 := dk_seg dksX9_work_2 24 rfl rfl
theorem dksX9_work_4 : cX9_work.data.toList.drop 92 = dktX9_work_4 := dk_seg dksX9_work_3 22 rfl rfl
theorem dX9_work_0 : decode cX9_work 0 = .ok (.aload_n 0, 1) := dk_42 (dk_at dksX9_work_0 0 rfl rfl)
theorem dX9_work_1 : decode cX9_work 1 = .ok (.iconst 0, 1) := dk_3 (dk_at dksX9_work_0 1 rfl rfl)
theorem dX9_work_2 : decode cX9_work 2 = .ok (.putfield 52, 3) := dk_181 0 52 (dk_at dksX9_work_0 2 rfl rfl)
theorem dX9_work_5 : decode cX9_work 5 = .ok (.aload_n 0, 1) := dk_42 (dk_at dksX9_work_0 5 rfl rfl)
theorem dX9_work_6 : decode cX9_work 6 = .ok (.invokevirtual 244, 3) := dk_182 0 244 (dk_at dksX9_work_0 6 rfl rfl)
theorem dX9_work_9 : decode cX9_work 9 = .ok (.ifCond .ne 9, 3) := dk_154 0 9 (dk_at dksX9_work_0 9 rfl rfl)
theorem dX9_work_12 : decode cX9_work 12 = .ok (.aload_n 0, 1) := dk_42 (dk_at dksX9_work_0 12 rfl rfl)
theorem dX9_work_13 : decode cX9_work 13 = .ok (.iconst 1, 1) := dk_4 (dk_at dksX9_work_0 13 rfl rfl)
theorem dX9_work_14 : decode cX9_work 14 = .ok (.invokevirtual 63, 3) := dk_182 0 63 (dk_at dksX9_work_0 14 rfl rfl)
theorem dX9_work_17 : decode cX9_work 17 = .ok (.ireturn, 1) := dk_172 (dk_at dksX9_work_0 17 rfl rfl)
theorem dX9_work_18 : decode cX9_work 18 = .ok (.aload_n 0, 1) := dk_42 (dk_at dksX9_work_0 18 rfl rfl)
theorem dX9_work_19 : decode cX9_work 19 = .ok (.invokevirtual 75, 3) := dk_182 0 75 (dk_at dksX9_work_0 19 rfl rfl)
theorem dX9_work_22 : decode cX9_work 22 = .ok (.iconst 0, 1) := dk_3 (dk_at dksX9_work_0 22 rfl rfl)
theorem dX9_work_23 : decode cX9_work 23 = .ok (.istore_n 1, 1) := dk_60 (dk_at dksX9_work_0 23 rfl rfl)
theorem dX9_work_24 : decode cX9_work 24 = .ok (.iconst 0, 1) := dk_3 (dk_at dksX9_work_1 0 rfl rfl)
theorem dX9_work_25 : decode cX9_work 25 = .ok (.istore_n 2, 1) := dk_61 (dk_at dksX9_work_1 1 rfl rfl)
theorem dX9_work_26 : decode cX9_work 26 = .ok (.iload_n 1, 1) := dk_27 (dk_at dksX9_work_1 2 rfl rfl)
theorem dX9_work_27 : decode cX9_work 27 = .ok (.aload_n 0, 1) := dk_42 (dk_at dksX9_work_1 3 rfl rfl)
theorem dX9_work_28 : decode cX9_work 28 = .ok (.getfield 224, 3) := dk_180 0 224 (dk_at dksX9_work_1 4 rfl rfl)
theorem dX9_work_31 : decode cX9_work 31 = .ok (.if_icmp .ge 28, 3) := dk_162 0 28 (dk_at dksX9_work_1 7 rfl rfl)
theorem dX9_work_34 : decode cX9_work 34 = .ok (.iload_n 2, 1) := dk_28 (dk_at dksX9_work_1 10 rfl rfl)
theorem dX9_work_35 : decode cX9_work 35 = .ok (.ifCond .ne 24, 3) := dk_154 0 24 (dk_at dksX9_work_1 11 rfl rfl)
theorem dX9_work_38 : decode cX9_work 38 = .ok (.aload_n 0, 1) := dk_42 (dk_at dksX9_work_1 14 rfl rfl)
theorem dX9_work_39 : decode cX9_work 39 = .ok (.iload_n 1, 1) := dk_27 (dk_at dksX9_work_1 15 rfl rfl)
theorem dX9_work_40 : decode cX9_work 40 = .ok (.invokevirtual 247, 3) := dk_182 0 247 (dk_at dksX9_work_1 16 rfl rfl)
theorem dX9_work_43 : decode cX9_work 43 = .ok (.istore_n 2, 1) := dk_61 (dk_at dksX9_work_1 19 rfl rfl)
theorem dX9_work_44 : decode cX9_work 44 = .ok (.iload_n 1, 1) := dk_27 (dk_at dksX9_work_1 20 rfl rfl)
theorem dX9_work_45 : decode cX9_work 45 = .ok (.iload_n 2, 1) := dk_28 (dk_at dksX9_work_1 21 rfl rfl)
theorem dX9_work_46 : decode cX9_work 46 = .ok (.ifCond .ne 7, 3) := dk_154 0 7 (dk_at dksX9_work_2 0 rfl rfl)
theorem dX9_work_49 : decode cX9_work 49 = .ok (.iconst 1, 1) := dk_4 (dk_at dksX9_work_2 3 rfl rfl)
theorem dX9_work_50 : decode cX9_work 50 = .ok (.goto 4, 3) := dk_167 0 4 (dk_at dksX9_work_2 4 rfl rfl)
theorem dX9_work_53 : decode cX9_work 53 = .ok (.iconst 0, 1) := dk_3 (dk_at dksX9_work_2 7 rfl rfl)
theorem dX9_work_54 : decode cX9_work 54 = .ok (.iadd, 1) := dk_96 (dk_at dksX9_work_2 8 rfl rfl)
theorem dX9_work_55 : decode cX9_work 55 = .ok (.istore_n 1, 1) := dk_60 (dk_at dksX9_work_2 9 rfl rfl)
theorem dX9_work_56 : decode cX9_work 56 = .ok (.goto (-30), 3) := dk_167 255 226 (dk_at dksX9_work_2 10 rfl rfl)
theorem dX9_work_59 : decode cX9_work 59 = .ok (.aload_n 0, 1) := dk_42 (dk_at dksX9_work_2 13 rfl rfl)
theorem dX9_work_60 : decode cX9_work 60 = .ok (.getfield 7, 3) := dk_180 0 7 (dk_at dksX9_work_2 14 rfl rfl)
theorem dX9_work_63 : decode cX9_work 63 = .ok (.bipush 65, 2) := dk_16 65 (dk_at dksX9_work_2 17 rfl rfl)
theorem dX9_work_65 : decode cX9_work 65 = .ok (.iload_n 2, 1) := dk_28 (dk_at dksX9_work_2 19 rfl rfl)
theorem dX9_work_66 : decode cX9_work 66 = .ok (.ifCond .le 7, 3) := dk_158 0 7 (dk_at dksX9_work_2 20 rfl rfl)
theorem dX9_work_69 : decode cX9_work 69 = .ok (.iconst 1, 1) := dk_4 (dk_at dksX9_work_2 23 rfl rfl)
theorem dX9_work_70 : decode cX9_work 70 = .ok (.goto 4, 3) := dk_167 0 4 (dk_at dksX9_work_3 0 rfl rfl)
theorem dX9_work_73 : decode cX9_work 73 = .ok (.iconst 0, 1) := dk_3 (dk_at dksX9_work_3 3 rfl rfl)
theorem dX9_work_74 : decode cX9_work 74 = .ok (.iastore, 1) := dk_79 (dk_at dksX9_work_3 4 rfl rfl)
theorem dX9_work_75 : decode cX9_work 75 = .ok (.aload_n 0, 1) := dk_42 (dk_at dksX9_work_3 5 rfl rfl)
theorem dX9_work_76 : decode cX9_work 76 = .ok (.getfield 7, 3) := dk_180 0 7 (dk_at dksX9_work_3 6 rfl rfl)
theorem dX9_work_79 : decode cX9_work 79 = .ok (.bipush 66, 2) := dk_16 66 (dk_at dksX9_work_3 9 rfl rfl)
theorem dX9_work_81 : decode cX9_work 81 = .ok (.iload_n 2, 1) := dk_28 (dk_at dksX9_work_3 11 rfl rfl)
theorem dX9_work_82 : decode cX9_work 82 = .ok (.ifCond .le 7, 3) := dk_158 0 7 (dk_at dksX9_work_3 12 rfl rfl)
theorem dX9_work_85 : decode cX9_work 85 = .ok (.iload_n 1, 1) := dk_27 (dk_at dksX9_work_3 15 rfl rfl)
theorem dX9_work_86 : decode cX9_work 86 = .ok (.goto 4, 3) := dk_167 0 4 (dk_at dksX9_work_3 16 rfl rfl)
theorem dX9_work_89 : decode cX9_work 89 = .ok (.iconst 0, 1) := dk_3 (dk_at dksX9_work_3 19 rfl rfl)
theorem dX9_work_90 : decode cX9_work 90 = .ok (.iastore, 1) := dk_79 (dk_at dksX9_work_3 20 rfl rfl)
theorem dX9_work_91 : decode cX9_work 91 = .ok (.aload_n 0, 1) := dk_42 (dk_at dksX9_work_3 21 rfl rfl)
theorem dX9_work_92 : decode cX9_work 92 = .ok (.getfield 7, 3) := dk_180 0 7 (dk_at dksX9_work_4 0 rfl rfl)
theorem dX9_work_95 : decode cX9_work 95 = .ok (.bipush 67, 2) := dk_16 67 (dk_at dksX9_work_4 3 rfl rfl)
theorem dX9_work_97 : decode cX9_work 97 = .ok (.iload_n 2, 1) := dk_28 (dk_at dksX9_work_4 5 rfl rfl)
theorem dX9_work_98 : decode cX9_work 98 = .ok (.iastore, 1) := dk_79 (dk_at dksX9_work_4 6 rfl rfl)
theorem dX9_work_99 : decode cX9_work 99 = .ok (.aload_n 0, 1) := dk_42 (dk_at dksX9_work_4 7 rfl rfl)
theorem dX9_work_100 : decode cX9_work 100 = .ok (.iconst 0, 1) := dk_3 (dk_at dksX9_work_4 8 rfl rfl)
theorem dX9_work_101 : decode cX9_work 101 = .ok (.putfield 212, 3) := dk_181 0 212 (dk_at dksX9_work_4 9 rfl rfl)
theorem dX9_work_104 : decode cX9_work 104 = .ok (.iload_n 1, 1) := dk_27 (dk_at dksX9_work_4 12 rfl rfl)
theorem dX9_work_105 : decode cX9_work 105 = .ok (.ireturn, 1) := dk_172 (dk_at dksX9_work_4 13 rfl rfl)
abbrev cX9_does : ByteArray := prog_11_method_96_code
def yX9_does : MethodName := ⟨RX9, "does", "(I)I"⟩
def dkwX9_does_7 : List UInt8 := [172, 42, 182, 0, 197, 3, 172]
abbrev dktX9_does_7 : List UInt8 := dkwX9_does_7 ++ []
def dkwX9_does_6 : List UInt8 := [16, 64, 42, 180, 0, 43, 27, 46, 79, 3, 172, 42, 182, 0, 191, 62, 3, 172, 42, 182, 0, 194, 62, 3]
abbrev dktX9_does_6 : List UInt8 := dkwX9_does_6 ++ dktX9_does_7
def dkwX9_does_5 : List UInt8 := [182, 0, 115, 154, 0, 5, 5, 172, 42, 182, 0, 118, 42, 182, 0, 188, 62, 3, 172, 42, 180, 0, 7]
abbrev dktX9_does_5 : List UInt8 := dkwX9_does_5 ++ dktX9_does_6
def dkwX9_does_4 : List UInt8 := [182, 0, 185, 154, 0, 5, 4, 172, 42, 182, 0, 188, 62, 3, 172, 42, 42, 180, 0, 43, 27, 46]
abbrev dktX9_does_4 : List UInt8 := dkwX9_does_4 ++ dktX9_does_5
def dkwX9_does_3 : List UInt8 := [42, 180, 0, 7, 28, 42, 180, 0, 49, 27, 46, 79, 3, 172, 42, 28, 42, 180, 0, 49, 27, 46]
abbrev dktX9_does_3 : List UInt8 := dkwX9_does_3 ++ dktX9_does_4
def dkwX9_does_2 : List UInt8 := [170, 0, 0, 0, 0, 0, 175, 0, 0, 0, 100, 0, 0, 0, 116, 0, 0, 0, 97, 0, 0, 0, 175, 0, 0, 0, 175, 0, 0, 0, 175, 0, 0, 0, 175, 0, 0, 0, 175, 0, 0, 0, 175, 0, 0, 0, 175, 0, 0, 0, 146, 0, 0, 0, 168, 0, 0, 0, 175, 0, 0, 0, 175, 0, 0, 0, 83, 0, 0, 0, 175, 0, 0, 0, 161, 0, 0, 0, 175, 0, 0, 0, 120]
abbrev dktX9_does_2 : List UInt8 := dkwX9_does_2 ++ dktX9_does_3
def dkwX9_does_1 : List UInt8 := [46]
abbrev dktX9_does_1 : List UInt8 := dkwX9_does_1 ++ dktX9_does_2
def dkwX9_does_0 : List UInt8 := [16, 8, 42, 180, 0, 43, 27, 46, 104, 42, 180, 0, 46, 27, 46, 96, 61, 3, 62, 42, 180, 0, 40, 27]
abbrev dktX9_does_0 : List UInt8 := dkwX9_does_0 ++ dktX9_does_1
theorem dksX9_does_0 : cX9_does.data.toList.drop 0 = dktX9_does_0 := by decide +kernel
theorem dksX9_does_1 : cX9_does.data.toList.drop 24 = dktX9_does_1 := dk_seg dksX9_does_0 24 rfl rfl
theorem dksX9_does_2 : cX9_does.data.toList.drop 25 = dktX9_does_2 := dk_seg dksX9_does_1 1 rfl rfl
theorem dksX9_does_3 : cX9_does.data.toList.drop 108 = dktX9_does_3 := dk_seg dksX9_does_2 83 rfl rfl
theorem dksX9_does_4 : cX9_does.data.toList.drop 130 = dktX9_does_4 := dk_seg dksX9_does_3 22 rfl rfl
theorem dksX9_does_5 : cX9_does.data.toList.drop 152 = dktX9_does_5 := dk_seg dksX9_does_4 22 rfl rfl
theorem dksX9_does_6 : cX9_does.data.toList.drop 175 = dktX9_does_6 := dk_seg dksX9_does_5 23 rfl rfl
theorem dksX9_does_7 : cX9_does.data.toList.drop 199 = dktX9_does_7 := dk_seg dksX9_does_6 24 rfl rfl
theorem dX9_does_0 : decode cX9_does 0 = .ok (.bipush 8, 2) := dk_16 8 (dk_at dksX9_does_0 0 rfl rfl)
theorem dX9_does_2 : decode cX9_does 2 = .ok (.aload_n 0, 1) := dk_42 (dk_at dksX9_does_0 2 rfl rfl)
theorem dX9_does_3 : decode cX9_does 3 = .ok (.getfield 43, 3) := dk_180 0 43 (dk_at dksX9_does_0 3 rfl rfl)
theorem dX9_does_6 : decode cX9_does 6 = .ok (.iload_n 1, 1) := dk_27 (dk_at dksX9_does_0 6 rfl rfl)
theorem dX9_does_7 : decode cX9_does 7 = .ok (.iaload, 1) := dk_46 (dk_at dksX9_does_0 7 rfl rfl)
theorem dX9_does_8 : decode cX9_does 8 = .ok (.imul, 1) := dk_104 (dk_at dksX9_does_0 8 rfl rfl)
theorem dX9_does_9 : decode cX9_does 9 = .ok (.aload_n 0, 1) := dk_42 (dk_at dksX9_does_0 9 rfl rfl)
theorem dX9_does_10 : decode cX9_does 10 = .ok (.getfield 46, 3) := dk_180 0 46 (dk_at dksX9_does_0 10 rfl rfl)
theorem dX9_does_13 : decode cX9_does 13 = .ok (.iload_n 1, 1) := dk_27 (dk_at dksX9_does_0 13 rfl rfl)
theorem dX9_does_14 : decode cX9_does 14 = .ok (.iaload, 1) := dk_46 (dk_at dksX9_does_0 14 rfl rfl)
theorem dX9_does_15 : decode cX9_does 15 = .ok (.iadd, 1) := dk_96 (dk_at dksX9_does_0 15 rfl rfl)
theorem dX9_does_16 : decode cX9_does 16 = .ok (.istore_n 2, 1) := dk_61 (dk_at dksX9_does_0 16 rfl rfl)
theorem dX9_does_17 : decode cX9_does 17 = .ok (.iconst 0, 1) := dk_3 (dk_at dksX9_does_0 17 rfl rfl)
theorem dX9_does_18 : decode cX9_does 18 = .ok (.istore_n 3, 1) := dk_62 (dk_at dksX9_does_0 18 rfl rfl)
theorem dX9_does_19 : decode cX9_does 19 = .ok (.aload_n 0, 1) := dk_42 (dk_at dksX9_does_0 19 rfl rfl)
theorem dX9_does_20 : decode cX9_does 20 = .ok (.getfield 40, 3) := dk_180 0 40 (dk_at dksX9_does_0 20 rfl rfl)
theorem dX9_does_23 : decode cX9_does 23 = .ok (.iload_n 1, 1) := dk_27 (dk_at dksX9_does_0 23 rfl rfl)
theorem dX9_does_24 : decode cX9_does 24 = .ok (.iaload, 1) := dk_46 (dk_at dksX9_does_1 0 rfl rfl)
theorem dX9_does_25 : decode cX9_does 25 = .ok (.tableswitch 175 100 116 #[97, 175, 175, 175, 175, 175, 175, 175, 146, 168, 175, 175, 83, 175, 161, 175, 120], 83) := by decide +kernel
theorem dX9_does_108 : decode cX9_does 108 = .ok (.aload_n 0, 1) := dk_42 (dk_at dksX9_does_3 0 rfl rfl)
theorem dX9_does_109 : decode cX9_does 109 = .ok (.getfield 7, 3) := dk_180 0 7 (dk_at dksX9_does_3 1 rfl rfl)
theorem dX9_does_112 : decode cX9_does 112 = .ok (.iload_n 2, 1) := dk_28 (dk_at dksX9_does_3 4 rfl rfl)
theorem dX9_does_113 : decode cX9_does 113 = .ok (.aload_n 0, 1) := dk_42 (dk_at dksX9_does_3 5 rfl rfl)
theorem dX9_does_114 : decode cX9_does 114 = .ok (.getfield 49, 3) := dk_180 0 49 (dk_at dksX9_does_3 6 rfl rfl)
theorem dX9_does_117 : decode cX9_does 117 = .ok (.iload_n 1, 1) := dk_27 (dk_at dksX9_does_3 9 rfl rfl)
theorem dX9_does_118 : decode cX9_does 118 = .ok (.iaload, 1) := dk_46 (dk_at dksX9_does_3 10 rfl rfl)
theorem dX9_does_119 : decode cX9_does 119 = .ok (.iastore, 1) := dk_79 (dk_at dksX9_does_3 11 rfl rfl)
theorem dX9_does_120 : decode cX9_does 120 = .ok (.iconst 0, 1) := dk_3 (dk_at dksX9_does_3 12 rfl rfl)
theorem dX9_does_121 : decode cX9_does 121 = .ok (.ireturn, 1) := dk_172 (dk_at dksX9_does_3 13 rfl rfl)
theorem dX9_does_122 : decode cX9_does 122 = .ok (.aload_n 0, 1) := dk_42 (dk_at dksX9_does_3 14 rfl rfl)
theorem dX9_does_123 : decode cX9_does 123 = .ok (.iload_n 2, 1) := dk_28 (dk_at dksX9_does_3 15 rfl rfl)
theorem dX9_does_124 : decode cX9_does 124 = .ok (.aload_n 0, 1) := dk_42 (dk_at dksX9_does_3 16 rfl rfl)
theorem dX9_does_125 : decode cX9_does 125 = .ok (.getfield 49, 3) := dk_180 0 49 (dk_at dksX9_does_3 17 rfl rfl)
theorem dX9_does_128 : decode cX9_does 128 = .ok (.iload_n 1, 1) := dk_27 (dk_at dksX9_does_3 20 rfl rfl)
theorem dX9_does_129 : decode cX9_does 129 = .ok (.iaload, 1) := dk_46 (dk_at dksX9_does_3 21 rfl rfl)
theorem dX9_does_130 : decode cX9_does 130 = .ok (.invokevirtual 185, 3) := dk_182 0 185 (dk_at dksX9_does_4 0 rfl rfl)
theorem dX9_does_133 : decode cX9_does 133 = .ok (.ifCond .ne 5, 3) := dk_154 0 5 (dk_at dksX9_does_4 3 rfl rfl)
theorem dX9_does_136 : decode cX9_does 136 = .ok (.iconst 1, 1) := dk_4 (dk_at dksX9_does_4 6 rfl rfl)
theorem dX9_does_137 : decode cX9_does 137 = .ok (.ireturn, 1) := dk_172 (dk_at dksX9_does_4 7 rfl rfl)
theorem dX9_does_138 : decode cX9_does 138 = .ok (.aload_n 0, 1) := dk_42 (dk_at dksX9_does_4 8 rfl rfl)
theorem dX9_does_139 : decode cX9_does 139 = .ok (.invokevirtual 188, 3) := dk_182 0 188 (dk_at dksX9_does_4 9 rfl rfl)
theorem dX9_does_142 : decode cX9_does 142 = .ok (.istore_n 3, 1) := dk_62 (dk_at dksX9_does_4 12 rfl rfl)
theorem dX9_does_143 : decode cX9_does 143 = .ok (.iconst 0, 1) := dk_3 (dk_at dksX9_does_4 13 rfl rfl)
theorem dX9_does_144 : decode cX9_does 144 = .ok (.ireturn, 1) := dk_172 (dk_at dksX9_does_4 14 rfl rfl)
theorem dX9_does_145 : decode cX9_does 145 = .ok (.aload_n 0, 1) := dk_42 (dk_at dksX9_does_4 15 rfl rfl)
theorem dX9_does_146 : decode cX9_does 146 = .ok (.aload_n 0, 1) := dk_42 (dk_at dksX9_does_4 16 rfl rfl)
theorem dX9_does_147 : decode cX9_does 147 = .ok (.getfield 43, 3) := dk_180 0 43 (dk_at dksX9_does_4 17 rfl rfl)
theorem dX9_does_150 : decode cX9_does 150 = .ok (.iload_n 1, 1) := dk_27 (dk_at dksX9_does_4 20 rfl rfl)
theorem dX9_does_151 : decode cX9_does 151 = .ok (.iaload, 1) := dk_46 (dk_at dksX9_does_4 21 rfl rfl)
theorem dX9_does_152 : decode cX9_does 152 = .ok (.invokevirtual 115, 3) := dk_182 0 115 (dk_at dksX9_does_5 0 rfl rfl)
theorem dX9_does_155 : decode cX9_does 155 = .ok (.ifCond .ne 5, 3) := dk_154 0 5 (dk_at dksX9_does_5 3 rfl rfl)
theorem dX9_does_158 : decode cX9_does 158 = .ok (.iconst 2, 1) := dk_5 (dk_at dksX9_does_5 6 rfl rfl)
theorem dX9_does_159 : decode cX9_does 159 = .ok (.ireturn, 1) := dk_172 (dk_at dksX9_does_5 7 rfl rfl)
theorem dX9_does_160 : decode cX9_does 160 = .ok (.aload_n 0, 1) := dk_42 (dk_at dksX9_does_5 8 rfl rfl)
theorem dX9_does_161 : decode cX9_does 161 = .ok (.invokevirtual 118, 3) := dk_182 0 118 (dk_at dksX9_does_5 9 rfl rfl)
theorem dX9_does_164 : decode cX9_does 164 = .ok (.aload_n 0, 1) := dk_42 (dk_at dksX9_does_5 12 rfl rfl)
theorem dX9_does_165 : decode cX9_does 165 = .ok (.invokevirtual 188, 3) := dk_182 0 188 (dk_at dksX9_does_5 13 rfl rfl)
theorem dX9_does_168 : decode cX9_does 168 = .ok (.istore_n 3, 1) := dk_62 (dk_at dksX9_does_5 16 rfl rfl)
theorem dX9_does_169 : decode cX9_does 169 = .ok (.iconst 0, 1) := dk_3 (dk_at dksX9_does_5 17 rfl rfl)
theorem dX9_does_170 : decode cX9_does 170 = .ok (.ireturn, 1) := dk_172 (dk_at dksX9_does_5 18 rfl rfl)
theorem dX9_does_171 : decode cX9_does 171 = .ok (.aload_n 0, 1) := dk_42 (dk_at dksX9_does_5 19 rfl rfl)
theorem dX9_does_172 : decode cX9_does 172 = .ok (.getfield 7, 3) := dk_180 0 7 (dk_at dksX9_does_5 20 rfl rfl)
theorem dX9_does_175 : decode cX9_does 175 = .ok (.bipush 64, 2) := dk_16 64 (dk_at dksX9_does_6 0 rfl rfl)
theorem dX9_does_177 : decode cX9_does 177 = .ok (.aload_n 0, 1) := dk_42 (dk_at dksX9_does_6 2 rfl rfl)
theorem dX9_does_178 : decode cX9_does 178 = .ok (.getfield 43, 3) := dk_180 0 43 (dk_at dksX9_does_6 3 rfl rfl)
theorem dX9_does_181 : decode cX9_does 181 = .ok (.iload_n 1, 1) := dk_27 (dk_at dksX9_does_6 6 rfl rfl)
theorem dX9_does_182 : decode cX9_does 182 = .ok (.iaload, 1) := dk_46 (dk_at dksX9_does_6 7 rfl rfl)
theorem dX9_does_183 : decode cX9_does 183 = .ok (.iastore, 1) := dk_79 (dk_at dksX9_does_6 8 rfl rfl)
theorem dX9_does_184 : decode cX9_does 184 = .ok (.iconst 0, 1) := dk_3 (dk_at dksX9_does_6 9 rfl rfl)
theorem dX9_does_185 : decode cX9_does 185 = .ok (.ireturn, 1) := dk_172 (dk_at dksX9_does_6 10 rfl rfl)
theorem dX9_does_186 : decode cX9_does 186 = .ok (.aload_n 0, 1) := dk_42 (dk_at dksX9_does_6 11 rfl rfl)
theorem dX9_does_187 : decode cX9_does 187 = .ok (.invokevirtual 191, 3) := dk_182 0 191 (dk_at dksX9_does_6 12 rfl rfl)
theorem dX9_does_190 : decode cX9_does 190 = .ok (.istore_n 3, 1) := dk_62 (dk_at dksX9_does_6 15 rfl rfl)
theorem dX9_does_191 : decode cX9_does 191 = .ok (.iconst 0, 1) := dk_3 (dk_at dksX9_does_6 16 rfl rfl)
theorem dX9_does_192 : decode cX9_does 192 = .ok (.ireturn, 1) := dk_172 (dk_at dksX9_does_6 17 rfl rfl)
theorem dX9_does_193 : decode cX9_does 193 = .ok (.aload_n 0, 1) := dk_42 (dk_at dksX9_does_6 18 rfl rfl)
theorem dX9_does_194 : decode cX9_does 194 = .ok (.invokevirtual 194, 3) := dk_182 0 194 (dk_at dksX9_does_6 19 rfl rfl)
theorem dX9_does_197 : decode cX9_does 197 = .ok (.istore_n 3, 1) := dk_62 (dk_at dksX9_does_6 22 rfl rfl)
theorem dX9_does_198 : decode cX9_does 198 = .ok (.iconst 0, 1) := dk_3 (dk_at dksX9_does_6 23 rfl rfl)
theorem dX9_does_199 : decode cX9_does 199 = .ok (.ireturn, 1) := dk_172 (dk_at dksX9_does_7 0 rfl rfl)
theorem dX9_does_200 : decode cX9_does 200 = .ok (.aload_n 0, 1) := dk_42 (dk_at dksX9_does_7 1 rfl rfl)
theorem dX9_does_201 : decode cX9_does 201 = .ok (.invokevirtual 197, 3) := dk_182 0 197 (dk_at dksX9_does_7 2 rfl rfl)
theorem dX9_does_204 : decode cX9_does 204 = .ok (.iconst 0, 1) := dk_3 (dk_at dksX9_does_7 5 rfl rfl)
theorem dX9_does_205 : decode cX9_does 205 = .ok (.ireturn, 1) := dk_172 (dk_at dksX9_does_7 6 rfl rfl)
abbrev cX9_hasStopped : ByteArray := prog_11_method_98_code
def yX9_hasStopped : MethodName := ⟨RX9, "hasStopped", "()Z"⟩
def dkwX9_hasStopped_0 : List UInt8 := [42, 3, 181, 0, 52, 42, 180, 0, 7, 16, 65, 46, 4, 160, 0, 7, 4, 167, 0, 4, 3, 172]
abbrev dktX9_hasStopped_0 : List UInt8 := dkwX9_hasStopped_0 ++ []
theorem dksX9_hasStopped_0 : cX9_hasStopped.data.toList.drop 0 = dktX9_hasStopped_0 := by decide +kernel
theorem dX9_hasStopped_0 : decode cX9_hasStopped 0 = .ok (.aload_n 0, 1) := dk_42 (dk_at dksX9_hasStopped_0 0 rfl rfl)
theorem dX9_hasStopped_1 : decode cX9_hasStopped 1 = .ok (.iconst 0, 1) := dk_3 (dk_at dksX9_hasStopped_0 1 rfl rfl)
theorem dX9_hasStopped_2 : decode cX9_hasStopped 2 = .ok (.putfield 52, 3) := dk_181 0 52 (dk_at dksX9_hasStopped_0 2 rfl rfl)
theorem dX9_hasStopped_5 : decode cX9_hasStopped 5 = .ok (.aload_n 0, 1) := dk_42 (dk_at dksX9_hasStopped_0 5 rfl rfl)
theorem dX9_hasStopped_6 : decode cX9_hasStopped 6 = .ok (.getfield 7, 3) := dk_180 0 7 (dk_at dksX9_hasStopped_0 6 rfl rfl)
theorem dX9_hasStopped_9 : decode cX9_hasStopped 9 = .ok (.bipush 65, 2) := dk_16 65 (dk_at dksX9_hasStopped_0 9 rfl rfl)
theorem dX9_hasStopped_11 : decode cX9_hasStopped 11 = .ok (.iaload, 1) := dk_46 (dk_at dksX9_hasStopped_0 11 rfl rfl)
theorem dX9_hasStopped_12 : decode cX9_hasStopped 12 = .ok (.iconst 1, 1) := dk_4 (dk_at dksX9_hasStopped_0 12 rfl rfl)
theorem dX9_hasStopped_13 : decode cX9_hasStopped 13 = .ok (.if_icmp .ne 7, 3) := dk_160 0 7 (dk_at dksX9_hasStopped_0 13 rfl rfl)
theorem dX9_hasStopped_16 : decode cX9_hasStopped 16 = .ok (.iconst 1, 1) := dk_4 (dk_at dksX9_hasStopped_0 16 rfl rfl)
theorem dX9_hasStopped_17 : decode cX9_hasStopped 17 = .ok (.goto 4, 3) := dk_167 0 4 (dk_at dksX9_hasStopped_0 17 rfl rfl)
theorem dX9_hasStopped_20 : decode cX9_hasStopped 20 = .ok (.iconst 0, 1) := dk_3 (dk_at dksX9_hasStopped_0 20 rfl rfl)
theorem dX9_hasStopped_21 : decode cX9_hasStopped 21 = .ok (.ireturn, 1) := dk_172 (dk_at dksX9_hasStopped_0 21 rfl rfl)
abbrev cX9_stoppedPart : ByteArray := prog_11_method_99_code
def yX9_stoppedPart : MethodName := ⟨RX9, "stoppedPart", "()I"⟩
def dkwX9_stoppedPart_1 : List UInt8 := [167, 0, 8, 42, 4, 182, 0, 63, 172]
abbrev dktX9_stoppedPart_1 : List UInt8 := dkwX9_stoppedPart_1 ++ []
def dkwX9_stoppedPart_0 : List UInt8 := [42, 3, 181, 0, 52, 42, 180, 0, 7, 16, 65, 46, 4, 160, 0, 13, 42, 180, 0, 7, 16, 66, 46]
abbrev dktX9_stoppedPart_0 : List UInt8 := dkwX9_stoppedPart_0 ++ dktX9_stoppedPart_1
theorem dksX9_stoppedPart_0 : cX9_stoppedPart.data.toList.drop 0 = dktX9_stoppedPart_0 := by decide +kernel
theorem dksX9_stoppedPart_1 : cX9_stoppedPart.data.toList.drop 23 = dktX9_stoppedPart_1 := dk_seg dksX9_stoppedPart_0 23 rfl rfl
theorem dX9_stoppedPart_0 : decode cX9_stoppedPart 0 = .ok (.aload_n 0, 1) := dk_42 (dk_at dksX9_stoppedPart_0 0 rfl rfl)
theorem dX9_stoppedPart_1 : decode cX9_stoppedPart 1 = .ok (.iconst 0, 1) := dk_3 (dk_at dksX9_stoppedPart_0 1 rfl rfl)
theorem dX9_stoppedPart_2 : decode cX9_stoppedPart 2 = .ok (.putfield 52, 3) := dk_181 0 52 (dk_at dksX9_stoppedPart_0 2 rfl rfl)
theorem dX9_stoppedPart_5 : decode cX9_stoppedPart 5 = .ok (.aload_n 0, 1) := dk_42 (dk_at dksX9_stoppedPart_0 5 rfl rfl)
theorem dX9_stoppedPart_6 : decode cX9_stoppedPart 6 = .ok (.getfield 7, 3) := dk_180 0 7 (dk_at dksX9_stoppedPart_0 6 rfl rfl)
theorem dX9_stoppedPart_9 : decode cX9_stoppedPart 9 = .ok (.bipush 65, 2) := dk_16 65 (dk_at dksX9_stoppedPart_0 9 rfl rfl)
theorem dX9_stoppedPart_11 : decode cX9_stoppedPart 11 = .ok (.iaload, 1) := dk_46 (dk_at dksX9_stoppedPart_0 11 rfl rfl)
theorem dX9_stoppedPart_12 : decode cX9_stoppedPart 12 = .ok (.iconst 1, 1) := dk_4 (dk_at dksX9_stoppedPart_0 12 rfl rfl)
theorem dX9_stoppedPart_13 : decode cX9_stoppedPart 13 = .ok (.if_icmp .ne 13, 3) := dk_160 0 13 (dk_at dksX9_stoppedPart_0 13 rfl rfl)
theorem dX9_stoppedPart_16 : decode cX9_stoppedPart 16 = .ok (.aload_n 0, 1) := dk_42 (dk_at dksX9_stoppedPart_0 16 rfl rfl)
theorem dX9_stoppedPart_17 : decode cX9_stoppedPart 17 = .ok (.getfield 7, 3) := dk_180 0 7 (dk_at dksX9_stoppedPart_0 17 rfl rfl)
theorem dX9_stoppedPart_20 : decode cX9_stoppedPart 20 = .ok (.bipush 66, 2) := dk_16 66 (dk_at dksX9_stoppedPart_0 20 rfl rfl)
theorem dX9_stoppedPart_22 : decode cX9_stoppedPart 22 = .ok (.iaload, 1) := dk_46 (dk_at dksX9_stoppedPart_0 22 rfl rfl)
theorem dX9_stoppedPart_23 : decode cX9_stoppedPart 23 = .ok (.goto 8, 3) := dk_167 0 8 (dk_at dksX9_stoppedPart_1 0 rfl rfl)
theorem dX9_stoppedPart_26 : decode cX9_stoppedPart 26 = .ok (.aload_n 0, 1) := dk_42 (dk_at dksX9_stoppedPart_1 3 rfl rfl)
theorem dX9_stoppedPart_27 : decode cX9_stoppedPart 27 = .ok (.iconst 1, 1) := dk_4 (dk_at dksX9_stoppedPart_1 4 rfl rfl)
theorem dX9_stoppedPart_28 : decode cX9_stoppedPart 28 = .ok (.invokevirtual 63, 3) := dk_182 0 63 (dk_at dksX9_stoppedPart_1 5 rfl rfl)
theorem dX9_stoppedPart_31 : decode cX9_stoppedPart 31 = .ok (.ireturn, 1) := dk_172 (dk_at dksX9_stoppedPart_1 8 rfl rfl)
abbrev cX9_whyStopped : ByteArray := prog_11_method_100_code
def yX9_whyStopped : MethodName := ⟨RX9, "whyStopped", "()I"⟩
def dkwX9_whyStopped_1 : List UInt8 := [167, 0, 8, 42, 4, 182, 0, 63, 172]
abbrev dktX9_whyStopped_1 : List UInt8 := dkwX9_whyStopped_1 ++ []
def dkwX9_whyStopped_0 : List UInt8 := [42, 3, 181, 0, 52, 42, 180, 0, 7, 16, 65, 46, 4, 160, 0, 13, 42, 180, 0, 7, 16, 67, 46]
abbrev dktX9_whyStopped_0 : List UInt8 := dkwX9_whyStopped_0 ++ dktX9_whyStopped_1
theorem dksX9_whyStopped_0 : cX9_whyStopped.data.toList.drop 0 = dktX9_whyStopped_0 := by decide +kernel
theorem dksX9_whyStopped_1 : cX9_whyStopped.data.toList.drop 23 = dktX9_whyStopped_1 := dk_seg dksX9_whyStopped_0 23 rfl rfl
theorem dX9_whyStopped_0 : decode cX9_whyStopped 0 = .ok (.aload_n 0, 1) := dk_42 (dk_at dksX9_whyStopped_0 0 rfl rfl)
theorem dX9_whyStopped_1 : decode cX9_whyStopped 1 = .ok (.iconst 0, 1) := dk_3 (dk_at dksX9_whyStopped_0 1 rfl rfl)
theorem dX9_whyStopped_2 : decode cX9_whyStopped 2 = .ok (.putfield 52, 3) := dk_181 0 52 (dk_at dksX9_whyStopped_0 2 rfl rfl)
theorem dX9_whyStopped_5 : decode cX9_whyStopped 5 = .ok (.aload_n 0, 1) := dk_42 (dk_at dksX9_whyStopped_0 5 rfl rfl)
theorem dX9_whyStopped_6 : decode cX9_whyStopped 6 = .ok (.getfield 7, 3) := dk_180 0 7 (dk_at dksX9_whyStopped_0 6 rfl rfl)
theorem dX9_whyStopped_9 : decode cX9_whyStopped 9 = .ok (.bipush 65, 2) := dk_16 65 (dk_at dksX9_whyStopped_0 9 rfl rfl)
theorem dX9_whyStopped_11 : decode cX9_whyStopped 11 = .ok (.iaload, 1) := dk_46 (dk_at dksX9_whyStopped_0 11 rfl rfl)
theorem dX9_whyStopped_12 : decode cX9_whyStopped 12 = .ok (.iconst 1, 1) := dk_4 (dk_at dksX9_whyStopped_0 12 rfl rfl)
theorem dX9_whyStopped_13 : decode cX9_whyStopped 13 = .ok (.if_icmp .ne 13, 3) := dk_160 0 13 (dk_at dksX9_whyStopped_0 13 rfl rfl)
theorem dX9_whyStopped_16 : decode cX9_whyStopped 16 = .ok (.aload_n 0, 1) := dk_42 (dk_at dksX9_whyStopped_0 16 rfl rfl)
theorem dX9_whyStopped_17 : decode cX9_whyStopped 17 = .ok (.getfield 7, 3) := dk_180 0 7 (dk_at dksX9_whyStopped_0 17 rfl rfl)
theorem dX9_whyStopped_20 : decode cX9_whyStopped 20 = .ok (.bipush 67, 2) := dk_16 67 (dk_at dksX9_whyStopped_0 20 rfl rfl)
theorem dX9_whyStopped_22 : decode cX9_whyStopped 22 = .ok (.iaload, 1) := dk_46 (dk_at dksX9_whyStopped_0 22 rfl rfl)
theorem dX9_whyStopped_23 : decode cX9_whyStopped 23 = .ok (.goto 8, 3) := dk_167 0 8 (dk_at dksX9_whyStopped_1 0 rfl rfl)
theorem dX9_whyStopped_26 : decode cX9_whyStopped 26 = .ok (.aload_n 0, 1) := dk_42 (dk_at dksX9_whyStopped_1 3 rfl rfl)
theorem dX9_whyStopped_27 : decode cX9_whyStopped 27 = .ok (.iconst 1, 1) := dk_4 (dk_at dksX9_whyStopped_1 4 rfl rfl)
theorem dX9_whyStopped_28 : decode cX9_whyStopped 28 = .ok (.invokevirtual 63, 3) := dk_182 0 63 (dk_at dksX9_whyStopped_1 5 rfl rfl)
theorem dX9_whyStopped_31 : decode cX9_whyStopped 31 = .ok (.ireturn, 1) := dk_172 (dk_at dksX9_whyStopped_1 8 rfl rfl)
abbrev cX9_digest : ByteArray := prog_11_method_104_code
def yX9_digest : MethodName := ⟨RX9, "digest", "()J"⟩
def dkwX9_digest_9 : List UInt8 := [162, 0, 21, 31, 42, 180, 0, 19, 29, 46, 133, 184, 0, 252, 64, 132, 3, 1, 167, 255, 233, 31, 173]
abbrev dktX9_digest_9 : List UInt8 := dkwX9_digest_9 ++ []
def dkwX9_digest_8 : List UInt8 := [184, 1, 9, 184, 0, 252, 42, 180, 0, 212, 133, 184, 0, 252, 64, 3, 62, 29, 42, 180, 0, 212]
abbrev dktX9_digest_8 : List UInt8 := dkwX9_digest_8 ++ dktX9_digest_9
def dkwX9_digest_7 : List UInt8 := [46, 133, 184, 0, 252, 42, 180, 0, 7, 16, 67, 46, 133, 184, 0, 252, 64, 31, 42, 182, 0, 181]
abbrev dktX9_digest_7 : List UInt8 := dkwX9_digest_7 ++ dktX9_digest_8
def dkwX9_digest_6 : List UInt8 := [46, 133, 184, 0, 252, 64, 42, 180, 0, 7, 16, 65, 46, 4, 160, 0, 27, 31, 42, 180, 0, 7, 16, 66]
abbrev dktX9_digest_6 : List UInt8 := dkwX9_digest_6 ++ dktX9_digest_7
def dkwX9_digest_5 : List UInt8 := [182, 0, 173, 133, 184, 0, 252, 42, 6, 182, 0, 173, 133, 184, 0, 252, 64, 31, 42, 180, 0, 7, 16, 65]
abbrev dktX9_digest_5 : List UInt8 := dkwX9_digest_5 ++ dktX9_digest_6
def dkwX9_digest_4 : List UInt8 := [184, 0, 252, 64, 132, 3, 1, 167, 255, 230, 31, 42, 4, 182, 0, 173, 133, 184, 0, 252, 42, 5]
abbrev dktX9_digest_4 : List UInt8 := dkwX9_digest_4 ++ dktX9_digest_5
def dkwX9_digest_3 : List UInt8 := [182, 0, 161, 3, 62, 29, 16, 64, 162, 0, 26, 31, 42, 180, 0, 22, 42, 180, 0, 31, 29, 46, 46, 133]
abbrev dktX9_digest_3 : List UInt8 := dkwX9_digest_3 ++ dktX9_digest_4
def dkwX9_digest_2 : List UInt8 := [184, 0, 252, 42, 180, 0, 60, 133, 184, 0, 252, 64, 42, 42, 31, 182, 1, 2, 182, 1, 6, 64, 42]
abbrev dktX9_digest_2 : List UInt8 := dkwX9_digest_2 ++ dktX9_digest_3
def dkwX9_digest_1 : List UInt8 := [184, 0, 252, 64, 42, 182, 0, 161, 31, 42, 182, 0, 164, 133, 184, 0, 252, 42, 182, 0, 170, 133]
abbrev dktX9_digest_1 : List UInt8 := dkwX9_digest_1 ++ dktX9_digest_2
def dkwX9_digest_0 : List UInt8 := [42, 3, 181, 0, 52, 20, 1, 0, 42, 180, 0, 7, 16, 64, 46, 133, 184, 0, 252, 42, 182, 0, 71, 133]
abbrev dktX9_digest_0 : List UInt8 := dkwX9_digest_0 ++ dktX9_digest_1
theorem dksX9_digest_0 : cX9_digest.data.toList.drop 0 = dktX9_digest_0 := by decide +kernel
theorem dksX9_digest_1 : cX9_digest.data.toList.drop 24 = dktX9_digest_1 := dk_seg dksX9_digest_0 24 rfl rfl
theorem dksX9_digest_2 : cX9_digest.data.toList.drop 46 = dktX9_digest_2 := dk_seg dksX9_digest_1 22 rfl rfl
theorem dksX9_digest_3 : cX9_digest.data.toList.drop 69 = dktX9_digest_3 := dk_seg dksX9_digest_2 23 rfl rfl
theorem dksX9_digest_4 : cX9_digest.data.toList.drop 93 = dktX9_digest_4 := dk_seg dksX9_digest_3 24 rfl rfl
theorem dksX9_digest_5 : cX9_digest.data.toList.drop 115 = dktX9_digest_5 := dk_seg dksX9_digest_4 22 rfl rfl
theorem dksX9_digest_6 : cX9_digest.data.toList.drop 139 = dktX9_digest_6 := dk_seg dksX9_digest_5 24 rfl rfl
theorem dksX9_digest_7 : cX9_digest.data.toList.drop 163 = dktX9_digest_7 := dk_seg dksX9_digest_6 24 rfl rfl
theorem dksX9_digest_8 : cX9_digest.data.toList.drop 185 = dktX9_digest_8 := dk_seg dksX9_digest_7 22 rfl rfl
theorem dksX9_digest_9 : cX9_digest.data.toList.drop 207 = dktX9_digest_9 := dk_seg dksX9_digest_8 22 rfl rfl
theorem dX9_digest_0 : decode cX9_digest 0 = .ok (.aload_n 0, 1) := dk_42 (dk_at dksX9_digest_0 0 rfl rfl)
theorem dX9_digest_1 : decode cX9_digest 1 = .ok (.iconst 0, 1) := dk_3 (dk_at dksX9_digest_0 1 rfl rfl)
theorem dX9_digest_2 : decode cX9_digest 2 = .ok (.putfield 52, 3) := dk_181 0 52 (dk_at dksX9_digest_0 2 rfl rfl)
theorem dX9_digest_5 : decode cX9_digest 5 = .ok (.ldc2_w 256, 3) := dk_20 1 0 (dk_at dksX9_digest_0 5 rfl rfl)
theorem dX9_digest_8 : decode cX9_digest 8 = .ok (.aload_n 0, 1) := dk_42 (dk_at dksX9_digest_0 8 rfl rfl)
theorem dX9_digest_9 : decode cX9_digest 9 = .ok (.getfield 7, 3) := dk_180 0 7 (dk_at dksX9_digest_0 9 rfl rfl)
theorem dX9_digest_12 : decode cX9_digest 12 = .ok (.bipush 64, 2) := dk_16 64 (dk_at dksX9_digest_0 12 rfl rfl)
theorem dX9_digest_14 : decode cX9_digest 14 = .ok (.iaload, 1) := dk_46 (dk_at dksX9_digest_0 14 rfl rfl)
theorem dX9_digest_15 : decode cX9_digest 15 = .ok (.i2l, 1) := dk_133 (dk_at dksX9_digest_0 15 rfl rfl)
theorem dX9_digest_16 : decode cX9_digest 16 = .ok (.invokestatic 252, 3) := dk_184 0 252 (dk_at dksX9_digest_0 16 rfl rfl)
theorem dX9_digest_19 : decode cX9_digest 19 = .ok (.aload_n 0, 1) := dk_42 (dk_at dksX9_digest_0 19 rfl rfl)
theorem dX9_digest_20 : decode cX9_digest 20 = .ok (.invokevirtual 71, 3) := dk_182 0 71 (dk_at dksX9_digest_0 20 rfl rfl)
theorem dX9_digest_23 : decode cX9_digest 23 = .ok (.i2l, 1) := dk_133 (dk_at dksX9_digest_0 23 rfl rfl)
theorem dX9_digest_24 : decode cX9_digest 24 = .ok (.invokestatic 252, 3) := dk_184 0 252 (dk_at dksX9_digest_1 0 rfl rfl)
theorem dX9_digest_27 : decode cX9_digest 27 = .ok (.lstore_n 1, 1) := dk_64 (dk_at dksX9_digest_1 3 rfl rfl)
theorem dX9_digest_28 : decode cX9_digest 28 = .ok (.aload_n 0, 1) := dk_42 (dk_at dksX9_digest_1 4 rfl rfl)
theorem dX9_digest_29 : decode cX9_digest 29 = .ok (.invokevirtual 161, 3) := dk_182 0 161 (dk_at dksX9_digest_1 5 rfl rfl)
theorem dX9_digest_32 : decode cX9_digest 32 = .ok (.lload_n 1, 1) := dk_31 (dk_at dksX9_digest_1 8 rfl rfl)
theorem dX9_digest_33 : decode cX9_digest 33 = .ok (.aload_n 0, 1) := dk_42 (dk_at dksX9_digest_1 9 rfl rfl)
theorem dX9_digest_34 : decode cX9_digest 34 = .ok (.invokevirtual 164, 3) := dk_182 0 164 (dk_at dksX9_digest_1 10 rfl rfl)
theorem dX9_digest_37 : decode cX9_digest 37 = .ok (.i2l, 1) := dk_133 (dk_at dksX9_digest_1 13 rfl rfl)
theorem dX9_digest_38 : decode cX9_digest 38 = .ok (.invokestatic 252, 3) := dk_184 0 252 (dk_at dksX9_digest_1 14 rfl rfl)
theorem dX9_digest_41 : decode cX9_digest 41 = .ok (.aload_n 0, 1) := dk_42 (dk_at dksX9_digest_1 17 rfl rfl)
theorem dX9_digest_42 : decode cX9_digest 42 = .ok (.invokevirtual 170, 3) := dk_182 0 170 (dk_at dksX9_digest_1 18 rfl rfl)
theorem dX9_digest_45 : decode cX9_digest 45 = .ok (.i2l, 1) := dk_133 (dk_at dksX9_digest_1 21 rfl rfl)
theorem dX9_digest_46 : decode cX9_digest 46 = .ok (.invokestatic 252, 3) := dk_184 0 252 (dk_at dksX9_digest_2 0 rfl rfl)
theorem dX9_digest_49 : decode cX9_digest 49 = .ok (.aload_n 0, 1) := dk_42 (dk_at dksX9_digest_2 3 rfl rfl)
theorem dX9_digest_50 : decode cX9_digest 50 = .ok (.getfield 60, 3) := dk_180 0 60 (dk_at dksX9_digest_2 4 rfl rfl)
theorem dX9_digest_53 : decode cX9_digest 53 = .ok (.i2l, 1) := dk_133 (dk_at dksX9_digest_2 7 rfl rfl)
theorem dX9_digest_54 : decode cX9_digest 54 = .ok (.invokestatic 252, 3) := dk_184 0 252 (dk_at dksX9_digest_2 8 rfl rfl)
theorem dX9_digest_57 : decode cX9_digest 57 = .ok (.lstore_n 1, 1) := dk_64 (dk_at dksX9_digest_2 11 rfl rfl)
theorem dX9_digest_58 : decode cX9_digest 58 = .ok (.aload_n 0, 1) := dk_42 (dk_at dksX9_digest_2 12 rfl rfl)
theorem dX9_digest_59 : decode cX9_digest 59 = .ok (.aload_n 0, 1) := dk_42 (dk_at dksX9_digest_2 13 rfl rfl)
theorem dX9_digest_60 : decode cX9_digest 60 = .ok (.lload_n 1, 1) := dk_31 (dk_at dksX9_digest_2 14 rfl rfl)
theorem dX9_digest_61 : decode cX9_digest 61 = .ok (.invokevirtual 258, 3) := dk_182 1 2 (dk_at dksX9_digest_2 15 rfl rfl)
theorem dX9_digest_64 : decode cX9_digest 64 = .ok (.invokevirtual 262, 3) := dk_182 1 6 (dk_at dksX9_digest_2 18 rfl rfl)
theorem dX9_digest_67 : decode cX9_digest 67 = .ok (.lstore_n 1, 1) := dk_64 (dk_at dksX9_digest_2 21 rfl rfl)
theorem dX9_digest_68 : decode cX9_digest 68 = .ok (.aload_n 0, 1) := dk_42 (dk_at dksX9_digest_2 22 rfl rfl)
theorem dX9_digest_69 : decode cX9_digest 69 = .ok (.invokevirtual 161, 3) := dk_182 0 161 (dk_at dksX9_digest_3 0 rfl rfl)
theorem dX9_digest_72 : decode cX9_digest 72 = .ok (.iconst 0, 1) := dk_3 (dk_at dksX9_digest_3 3 rfl rfl)
theorem dX9_digest_73 : decode cX9_digest 73 = .ok (.istore_n 3, 1) := dk_62 (dk_at dksX9_digest_3 4 rfl rfl)
theorem dX9_digest_74 : decode cX9_digest 74 = .ok (.iload_n 3, 1) := dk_29 (dk_at dksX9_digest_3 5 rfl rfl)
theorem dX9_digest_75 : decode cX9_digest 75 = .ok (.bipush 64, 2) := dk_16 64 (dk_at dksX9_digest_3 6 rfl rfl)
theorem dX9_digest_77 : decode cX9_digest 77 = .ok (.if_icmp .ge 26, 3) := dk_162 0 26 (dk_at dksX9_digest_3 8 rfl rfl)
theorem dX9_digest_80 : decode cX9_digest 80 = .ok (.lload_n 1, 1) := dk_31 (dk_at dksX9_digest_3 11 rfl rfl)
theorem dX9_digest_81 : decode cX9_digest 81 = .ok (.aload_n 0, 1) := dk_42 (dk_at dksX9_digest_3 12 rfl rfl)
theorem dX9_digest_82 : decode cX9_digest 82 = .ok (.getfield 22, 3) := dk_180 0 22 (dk_at dksX9_digest_3 13 rfl rfl)
theorem dX9_digest_85 : decode cX9_digest 85 = .ok (.aload_n 0, 1) := dk_42 (dk_at dksX9_digest_3 16 rfl rfl)
theorem dX9_digest_86 : decode cX9_digest 86 = .ok (.getfield 31, 3) := dk_180 0 31 (dk_at dksX9_digest_3 17 rfl rfl)
theorem dX9_digest_89 : decode cX9_digest 89 = .ok (.iload_n 3, 1) := dk_29 (dk_at dksX9_digest_3 20 rfl rfl)
theorem dX9_digest_90 : decode cX9_digest 90 = .ok (.iaload, 1) := dk_46 (dk_at dksX9_digest_3 21 rfl rfl)
theorem dX9_digest_91 : decode cX9_digest 91 = .ok (.iaload, 1) := dk_46 (dk_at dksX9_digest_3 22 rfl rfl)
theorem dX9_digest_92 : decode cX9_digest 92 = .ok (.i2l, 1) := dk_133 (dk_at dksX9_digest_3 23 rfl rfl)
theorem dX9_digest_93 : decode cX9_digest 93 = .ok (.invokestatic 252, 3) := dk_184 0 252 (dk_at dksX9_digest_4 0 rfl rfl)
theorem dX9_digest_96 : decode cX9_digest 96 = .ok (.lstore_n 1, 1) := dk_64 (dk_at dksX9_digest_4 3 rfl rfl)
theorem dX9_digest_97 : decode cX9_digest 97 = .ok (.iinc 3 1, 3) := dk_132 3 1 (dk_at dksX9_digest_4 4 rfl rfl)
theorem dX9_digest_100 : decode cX9_digest 100 = .ok (.goto (-26), 3) := dk_167 255 230 (dk_at dksX9_digest_4 7 rfl rfl)
theorem dX9_digest_103 : decode cX9_digest 103 = .ok (.lload_n 1, 1) := dk_31 (dk_at dksX9_digest_4 10 rfl rfl)
theorem dX9_digest_104 : decode cX9_digest 104 = .ok (.aload_n 0, 1) := dk_42 (dk_at dksX9_digest_4 11 rfl rfl)
theorem dX9_digest_105 : decode cX9_digest 105 = .ok (.iconst 1, 1) := dk_4 (dk_at dksX9_digest_4 12 rfl rfl)
theorem dX9_digest_106 : decode cX9_digest 106 = .ok (.invokevirtual 173, 3) := dk_182 0 173 (dk_at dksX9_digest_4 13 rfl rfl)
theorem dX9_digest_109 : decode cX9_digest 109 = .ok (.i2l, 1) := dk_133 (dk_at dksX9_digest_4 16 rfl rfl)
theorem dX9_digest_110 : decode cX9_digest 110 = .ok (.invokestatic 252, 3) := dk_184 0 252 (dk_at dksX9_digest_4 17 rfl rfl)
theorem dX9_digest_113 : decode cX9_digest 113 = .ok (.aload_n 0, 1) := dk_42 (dk_at dksX9_digest_4 20 rfl rfl)
theorem dX9_digest_114 : decode cX9_digest 114 = .ok (.iconst 2, 1) := dk_5 (dk_at dksX9_digest_4 21 rfl rfl)
theorem dX9_digest_115 : decode cX9_digest 115 = .ok (.invokevirtual 173, 3) := dk_182 0 173 (dk_at dksX9_digest_5 0 rfl rfl)
theorem dX9_digest_118 : decode cX9_digest 118 = .ok (.i2l, 1) := dk_133 (dk_at dksX9_digest_5 3 rfl rfl)
theorem dX9_digest_119 : decode cX9_digest 119 = .ok (.invokestatic 252, 3) := dk_184 0 252 (dk_at dksX9_digest_5 4 rfl rfl)
theorem dX9_digest_122 : decode cX9_digest 122 = .ok (.aload_n 0, 1) := dk_42 (dk_at dksX9_digest_5 7 rfl rfl)
theorem dX9_digest_123 : decode cX9_digest 123 = .ok (.iconst 3, 1) := dk_6 (dk_at dksX9_digest_5 8 rfl rfl)
theorem dX9_digest_124 : decode cX9_digest 124 = .ok (.invokevirtual 173, 3) := dk_182 0 173 (dk_at dksX9_digest_5 9 rfl rfl)
theorem dX9_digest_127 : decode cX9_digest 127 = .ok (.i2l, 1) := dk_133 (dk_at dksX9_digest_5 12 rfl rfl)
theorem dX9_digest_128 : decode cX9_digest 128 = .ok (.invokestatic 252, 3) := dk_184 0 252 (dk_at dksX9_digest_5 13 rfl rfl)
theorem dX9_digest_131 : decode cX9_digest 131 = .ok (.lstore_n 1, 1) := dk_64 (dk_at dksX9_digest_5 16 rfl rfl)
theorem dX9_digest_132 : decode cX9_digest 132 = .ok (.lload_n 1, 1) := dk_31 (dk_at dksX9_digest_5 17 rfl rfl)
theorem dX9_digest_133 : decode cX9_digest 133 = .ok (.aload_n 0, 1) := dk_42 (dk_at dksX9_digest_5 18 rfl rfl)
theorem dX9_digest_134 : decode cX9_digest 134 = .ok (.getfield 7, 3) := dk_180 0 7 (dk_at dksX9_digest_5 19 rfl rfl)
theorem dX9_digest_137 : decode cX9_digest 137 = .ok (.bipush 65, 2) := dk_16 65 (dk_at dksX9_digest_5 22 rfl rfl)
theorem dX9_digest_139 : decode cX9_digest 139 = .ok (.iaload, 1) := dk_46 (dk_at dksX9_digest_6 0 rfl rfl)
theorem dX9_digest_140 : decode cX9_digest 140 = .ok (.i2l, 1) := dk_133 (dk_at dksX9_digest_6 1 rfl rfl)
theorem dX9_digest_141 : decode cX9_digest 141 = .ok (.invokestatic 252, 3) := dk_184 0 252 (dk_at dksX9_digest_6 2 rfl rfl)
theorem dX9_digest_144 : decode cX9_digest 144 = .ok (.lstore_n 1, 1) := dk_64 (dk_at dksX9_digest_6 5 rfl rfl)
theorem dX9_digest_145 : decode cX9_digest 145 = .ok (.aload_n 0, 1) := dk_42 (dk_at dksX9_digest_6 6 rfl rfl)
theorem dX9_digest_146 : decode cX9_digest 146 = .ok (.getfield 7, 3) := dk_180 0 7 (dk_at dksX9_digest_6 7 rfl rfl)
theorem dX9_digest_149 : decode cX9_digest 149 = .ok (.bipush 65, 2) := dk_16 65 (dk_at dksX9_digest_6 10 rfl rfl)
theorem dX9_digest_151 : decode cX9_digest 151 = .ok (.iaload, 1) := dk_46 (dk_at dksX9_digest_6 12 rfl rfl)
theorem dX9_digest_152 : decode cX9_digest 152 = .ok (.iconst 1, 1) := dk_4 (dk_at dksX9_digest_6 13 rfl rfl)
theorem dX9_digest_153 : decode cX9_digest 153 = .ok (.if_icmp .ne 27, 3) := dk_160 0 27 (dk_at dksX9_digest_6 14 rfl rfl)
theorem dX9_digest_156 : decode cX9_digest 156 = .ok (.lload_n 1, 1) := dk_31 (dk_at dksX9_digest_6 17 rfl rfl)
theorem dX9_digest_157 : decode cX9_digest 157 = .ok (.aload_n 0, 1) := dk_42 (dk_at dksX9_digest_6 18 rfl rfl)
theorem dX9_digest_158 : decode cX9_digest 158 = .ok (.getfield 7, 3) := dk_180 0 7 (dk_at dksX9_digest_6 19 rfl rfl)
theorem dX9_digest_161 : decode cX9_digest 161 = .ok (.bipush 66, 2) := dk_16 66 (dk_at dksX9_digest_6 22 rfl rfl)
theorem dX9_digest_163 : decode cX9_digest 163 = .ok (.iaload, 1) := dk_46 (dk_at dksX9_digest_7 0 rfl rfl)
theorem dX9_digest_164 : decode cX9_digest 164 = .ok (.i2l, 1) := dk_133 (dk_at dksX9_digest_7 1 rfl rfl)
theorem dX9_digest_165 : decode cX9_digest 165 = .ok (.invokestatic 252, 3) := dk_184 0 252 (dk_at dksX9_digest_7 2 rfl rfl)
theorem dX9_digest_168 : decode cX9_digest 168 = .ok (.aload_n 0, 1) := dk_42 (dk_at dksX9_digest_7 5 rfl rfl)
theorem dX9_digest_169 : decode cX9_digest 169 = .ok (.getfield 7, 3) := dk_180 0 7 (dk_at dksX9_digest_7 6 rfl rfl)
theorem dX9_digest_172 : decode cX9_digest 172 = .ok (.bipush 67, 2) := dk_16 67 (dk_at dksX9_digest_7 9 rfl rfl)
theorem dX9_digest_174 : decode cX9_digest 174 = .ok (.iaload, 1) := dk_46 (dk_at dksX9_digest_7 11 rfl rfl)
theorem dX9_digest_175 : decode cX9_digest 175 = .ok (.i2l, 1) := dk_133 (dk_at dksX9_digest_7 12 rfl rfl)
theorem dX9_digest_176 : decode cX9_digest 176 = .ok (.invokestatic 252, 3) := dk_184 0 252 (dk_at dksX9_digest_7 13 rfl rfl)
theorem dX9_digest_179 : decode cX9_digest 179 = .ok (.lstore_n 1, 1) := dk_64 (dk_at dksX9_digest_7 16 rfl rfl)
theorem dX9_digest_180 : decode cX9_digest 180 = .ok (.lload_n 1, 1) := dk_31 (dk_at dksX9_digest_7 17 rfl rfl)
theorem dX9_digest_181 : decode cX9_digest 181 = .ok (.aload_n 0, 1) := dk_42 (dk_at dksX9_digest_7 18 rfl rfl)
theorem dX9_digest_182 : decode cX9_digest 182 = .ok (.invokevirtual 181, 3) := dk_182 0 181 (dk_at dksX9_digest_7 19 rfl rfl)
theorem dX9_digest_185 : decode cX9_digest 185 = .ok (.invokestatic 265, 3) := dk_184 1 9 (dk_at dksX9_digest_8 0 rfl rfl)
theorem dX9_digest_188 : decode cX9_digest 188 = .ok (.invokestatic 252, 3) := dk_184 0 252 (dk_at dksX9_digest_8 3 rfl rfl)
theorem dX9_digest_191 : decode cX9_digest 191 = .ok (.aload_n 0, 1) := dk_42 (dk_at dksX9_digest_8 6 rfl rfl)
theorem dX9_digest_192 : decode cX9_digest 192 = .ok (.getfield 212, 3) := dk_180 0 212 (dk_at dksX9_digest_8 7 rfl rfl)
theorem dX9_digest_195 : decode cX9_digest 195 = .ok (.i2l, 1) := dk_133 (dk_at dksX9_digest_8 10 rfl rfl)
theorem dX9_digest_196 : decode cX9_digest 196 = .ok (.invokestatic 252, 3) := dk_184 0 252 (dk_at dksX9_digest_8 11 rfl rfl)
theorem dX9_digest_199 : decode cX9_digest 199 = .ok (.lstore_n 1, 1) := dk_64 (dk_at dksX9_digest_8 14 rfl rfl)
theorem dX9_digest_200 : decode cX9_digest 200 = .ok (.iconst 0, 1) := dk_3 (dk_at dksX9_digest_8 15 rfl rfl)
theorem dX9_digest_201 : decode cX9_digest 201 = .ok (.istore_n 3, 1) := dk_62 (dk_at dksX9_digest_8 16 rfl rfl)
theorem dX9_digest_202 : decode cX9_digest 202 = .ok (.iload_n 3, 1) := dk_29 (dk_at dksX9_digest_8 17 rfl rfl)
theorem dX9_digest_203 : decode cX9_digest 203 = .ok (.aload_n 0, 1) := dk_42 (dk_at dksX9_digest_8 18 rfl rfl)
theorem dX9_digest_204 : decode cX9_digest 204 = .ok (.getfield 212, 3) := dk_180 0 212 (dk_at dksX9_digest_8 19 rfl rfl)
theorem dX9_digest_207 : decode cX9_digest 207 = .ok (.if_icmp .ge 21, 3) := dk_162 0 21 (dk_at dksX9_digest_9 0 rfl rfl)
theorem dX9_digest_210 : decode cX9_digest 210 = .ok (.lload_n 1, 1) := dk_31 (dk_at dksX9_digest_9 3 rfl rfl)
theorem dX9_digest_211 : decode cX9_digest 211 = .ok (.aload_n 0, 1) := dk_42 (dk_at dksX9_digest_9 4 rfl rfl)
theorem dX9_digest_212 : decode cX9_digest 212 = .ok (.getfield 19, 3) := dk_180 0 19 (dk_at dksX9_digest_9 5 rfl rfl)
theorem dX9_digest_215 : decode cX9_digest 215 = .ok (.iload_n 3, 1) := dk_29 (dk_at dksX9_digest_9 8 rfl rfl)
theorem dX9_digest_216 : decode cX9_digest 216 = .ok (.iaload, 1) := dk_46 (dk_at dksX9_digest_9 9 rfl rfl)
theorem dX9_digest_217 : decode cX9_digest 217 = .ok (.i2l, 1) := dk_133 (dk_at dksX9_digest_9 10 rfl rfl)
theorem dX9_digest_218 : decode cX9_digest 218 = .ok (.invokestatic 252, 3) := dk_184 0 252 (dk_at dksX9_digest_9 11 rfl rfl)
theorem dX9_digest_221 : decode cX9_digest 221 = .ok (.lstore_n 1, 1) := dk_64 (dk_at dksX9_digest_9 14 rfl rfl)
theorem dX9_digest_222 : decode cX9_digest 222 = .ok (.iinc 3 1, 3) := dk_132 3 1 (dk_at dksX9_digest_9 15 rfl rfl)
theorem dX9_digest_225 : decode cX9_digest 225 = .ok (.goto (-23), 3) := dk_167 255 233 (dk_at dksX9_digest_9 18 rfl rfl)
theorem dX9_digest_228 : decode cX9_digest 228 = .ok (.lload_n 1, 1) := dk_31 (dk_at dksX9_digest_9 21 rfl rfl)
theorem dX9_digest_229 : decode cX9_digest 229 = .ok (.lreturn, 1) := dk_173 (dk_at dksX9_digest_9 22 rfl rfl)
abbrev cX9_mix : ByteArray := prog_11_method_101_code
def yX9_mix : MethodName := ⟨RX9, "mix", "(JJ)J"⟩
def dkwX9_mix_0 : List UInt8 := [20, 0, 250, 30, 105, 32, 97, 173]
abbrev dktX9_mix_0 : List UInt8 := dkwX9_mix_0 ++ []
theorem dksX9_mix_0 : cX9_mix.data.toList.drop 0 = dktX9_mix_0 := by decide +kernel
theorem dX9_mix_0 : decode cX9_mix 0 = .ok (.ldc2_w 250, 3) := dk_20 0 250 (dk_at dksX9_mix_0 0 rfl rfl)
theorem dX9_mix_3 : decode cX9_mix 3 = .ok (.lload_n 0, 1) := dk_30 (dk_at dksX9_mix_0 3 rfl rfl)
theorem dX9_mix_4 : decode cX9_mix 4 = .ok (.lmul, 1) := dk_105 (dk_at dksX9_mix_0 4 rfl rfl)
theorem dX9_mix_5 : decode cX9_mix 5 = .ok (.lload_n 2, 1) := dk_32 (dk_at dksX9_mix_0 5 rfl rfl)
theorem dX9_mix_6 : decode cX9_mix 6 = .ok (.ladd, 1) := dk_97 (dk_at dksX9_mix_0 6 rfl rfl)
theorem dX9_mix_7 : decode cX9_mix 7 = .ok (.lreturn, 1) := dk_173 (dk_at dksX9_mix_0 7 rfl rfl)
abbrev cX9_mixCells : ByteArray := prog_11_method_102_code
def yX9_mixCells : MethodName := ⟨RX9, "mixCells", "(J)J"⟩
def dkwX9_mixCells_5 : List UInt8 := [21, 5, 182, 0, 203, 133, 184, 0, 252, 66, 132, 5, 1, 167, 255, 234, 33, 173]
abbrev dktX9_mixCells_5 : List UInt8 := dkwX9_mixCells_5 ++ []
def dkwX9_mixCells_4 : List UInt8 := [46, 133, 184, 0, 252, 66, 132, 5, 1, 167, 255, 166, 3, 54, 5, 21, 5, 16, 10, 162, 0, 21, 33, 42]
abbrev dktX9_mixCells_4 : List UInt8 := dkwX9_mixCells_4 ++ dktX9_mixCells_5
def dkwX9_mixCells_3 : List UInt8 := [184, 0, 200, 133, 184, 0, 252, 42, 180, 0, 25, 21, 5, 46, 133, 184, 0, 252, 42, 180, 0, 25, 21, 5]
abbrev dktX9_mixCells_3 : List UInt8 := dkwX9_mixCells_3 ++ dktX9_mixCells_4
def dkwX9_mixCells_2 : List UInt8 := [180, 0, 7, 16, 64, 46, 184, 0, 93, 133, 184, 0, 252, 66, 33, 21, 5, 42, 180, 0, 7, 16, 64, 46]
abbrev dktX9_mixCells_2 : List UInt8 := dkwX9_mixCells_2 ++ dktX9_mixCells_3
def dkwX9_mixCells_1 : List UInt8 := [180, 0, 7, 21, 5, 46, 133, 184, 0, 252, 42, 180, 0, 22, 21, 5, 46, 133, 184, 0, 252, 21, 5, 42]
abbrev dktX9_mixCells_1 : List UInt8 := dkwX9_mixCells_1 ++ dktX9_mixCells_2
def dkwX9_mixCells_0 : List UInt8 := [31, 66, 42, 182, 0, 99, 42, 182, 0, 109, 3, 54, 5, 21, 5, 16, 64, 162, 0, 89, 33, 42]
abbrev dktX9_mixCells_0 : List UInt8 := dkwX9_mixCells_0 ++ dktX9_mixCells_1
theorem dksX9_mixCells_0 : cX9_mixCells.data.toList.drop 0 = dktX9_mixCells_0 := by decide +kernel
theorem dksX9_mixCells_1 : cX9_mixCells.data.toList.drop 22 = dktX9_mixCells_1 := dk_seg dksX9_mixCells_0 22 rfl rfl
theorem dksX9_mixCells_2 : cX9_mixCells.data.toList.drop 46 = dktX9_mixCells_2 := dk_seg dksX9_mixCells_1 24 rfl rfl
theorem dksX9_mixCells_3 : cX9_mixCells.data.toList.drop 70 = dktX9_mixCells_3 := dk_seg dksX9_mixCells_2 24 rfl rfl
theorem dksX9_mixCells_4 : cX9_mixCells.data.toList.drop 94 = dktX9_mixCells_4 := dk_seg dksX9_mixCells_3 24 rfl rfl
theorem dksX9_mixCells_5 : cX9_mixCells.data.toList.drop 118 = dktX9_mixCells_5 := dk_seg dksX9_mixCells_4 24 rfl rfl
theorem dX9_mixCells_0 : decode cX9_mixCells 0 = .ok (.lload_n 1, 1) := dk_31 (dk_at dksX9_mixCells_0 0 rfl rfl)
theorem dX9_mixCells_1 : decode cX9_mixCells 1 = .ok (.lstore_n 3, 1) := dk_66 (dk_at dksX9_mixCells_0 1 rfl rfl)
theorem dX9_mixCells_2 : decode cX9_mixCells 2 = .ok (.aload_n 0, 1) := dk_42 (dk_at dksX9_mixCells_0 2 rfl rfl)
theorem dX9_mixCells_3 : decode cX9_mixCells 3 = .ok (.invokevirtual 99, 3) := dk_182 0 99 (dk_at dksX9_mixCells_0 3 rfl rfl)
theorem dX9_mixCells_6 : decode cX9_mixCells 6 = .ok (.aload_n 0, 1) := dk_42 (dk_at dksX9_mixCells_0 6 rfl rfl)
theorem dX9_mixCells_7 : decode cX9_mixCells 7 = .ok (.invokevirtual 109, 3) := dk_182 0 109 (dk_at dksX9_mixCells_0 7 rfl rfl)
theorem dX9_mixCells_10 : decode cX9_mixCells 10 = .ok (.iconst 0, 1) := dk_3 (dk_at dksX9_mixCells_0 10 rfl rfl)
theorem dX9_mixCells_11 : decode cX9_mixCells 11 = .ok (.istore 5, 2) := dk_54 5 (dk_at dksX9_mixCells_0 11 rfl rfl)
theorem dX9_mixCells_13 : decode cX9_mixCells 13 = .ok (.iload 5, 2) := dk_21 5 (dk_at dksX9_mixCells_0 13 rfl rfl)
theorem dX9_mixCells_15 : decode cX9_mixCells 15 = .ok (.bipush 64, 2) := dk_16 64 (dk_at dksX9_mixCells_0 15 rfl rfl)
theorem dX9_mixCells_17 : decode cX9_mixCells 17 = .ok (.if_icmp .ge 89, 3) := dk_162 0 89 (dk_at dksX9_mixCells_0 17 rfl rfl)
theorem dX9_mixCells_20 : decode cX9_mixCells 20 = .ok (.lload_n 3, 1) := dk_33 (dk_at dksX9_mixCells_0 20 rfl rfl)
theorem dX9_mixCells_21 : decode cX9_mixCells 21 = .ok (.aload_n 0, 1) := dk_42 (dk_at dksX9_mixCells_0 21 rfl rfl)
theorem dX9_mixCells_22 : decode cX9_mixCells 22 = .ok (.getfield 7, 3) := dk_180 0 7 (dk_at dksX9_mixCells_1 0 rfl rfl)
theorem dX9_mixCells_25 : decode cX9_mixCells 25 = .ok (.iload 5, 2) := dk_21 5 (dk_at dksX9_mixCells_1 3 rfl rfl)
theorem dX9_mixCells_27 : decode cX9_mixCells 27 = .ok (.iaload, 1) := dk_46 (dk_at dksX9_mixCells_1 5 rfl rfl)
theorem dX9_mixCells_28 : decode cX9_mixCells 28 = .ok (.i2l, 1) := dk_133 (dk_at dksX9_mixCells_1 6 rfl rfl)
theorem dX9_mixCells_29 : decode cX9_mixCells 29 = .ok (.invokestatic 252, 3) := dk_184 0 252 (dk_at dksX9_mixCells_1 7 rfl rfl)
theorem dX9_mixCells_32 : decode cX9_mixCells 32 = .ok (.aload_n 0, 1) := dk_42 (dk_at dksX9_mixCells_1 10 rfl rfl)
theorem dX9_mixCells_33 : decode cX9_mixCells 33 = .ok (.getfield 22, 3) := dk_180 0 22 (dk_at dksX9_mixCells_1 11 rfl rfl)
theorem dX9_mixCells_36 : decode cX9_mixCells 36 = .ok (.iload 5, 2) := dk_21 5 (dk_at dksX9_mixCells_1 14 rfl rfl)
theorem dX9_mixCells_38 : decode cX9_mixCells 38 = .ok (.iaload, 1) := dk_46 (dk_at dksX9_mixCells_1 16 rfl rfl)
theorem dX9_mixCells_39 : decode cX9_mixCells 39 = .ok (.i2l, 1) := dk_133 (dk_at dksX9_mixCells_1 17 rfl rfl)
theorem dX9_mixCells_40 : decode cX9_mixCells 40 = .ok (.invokestatic 252, 3) := dk_184 0 252 (dk_at dksX9_mixCells_1 18 rfl rfl)
theorem dX9_mixCells_43 : decode cX9_mixCells 43 = .ok (.iload 5, 2) := dk_21 5 (dk_at dksX9_mixCells_1 21 rfl rfl)
theorem dX9_mixCells_45 : decode cX9_mixCells 45 = .ok (.aload_n 0, 1) := dk_42 (dk_at dksX9_mixCells_1 23 rfl rfl)
theorem dX9_mixCells_46 : decode cX9_mixCells 46 = .ok (.getfield 7, 3) := dk_180 0 7 (dk_at dksX9_mixCells_2 0 rfl rfl)
theorem dX9_mixCells_49 : decode cX9_mixCells 49 = .ok (.bipush 64, 2) := dk_16 64 (dk_at dksX9_mixCells_2 3 rfl rfl)
theorem dX9_mixCells_51 : decode cX9_mixCells 51 = .ok (.iaload, 1) := dk_46 (dk_at dksX9_mixCells_2 5 rfl rfl)
theorem dX9_mixCells_52 : decode cX9_mixCells 52 = .ok (.invokestatic 93, 3) := dk_184 0 93 (dk_at dksX9_mixCells_2 6 rfl rfl)
theorem dX9_mixCells_55 : decode cX9_mixCells 55 = .ok (.i2l, 1) := dk_133 (dk_at dksX9_mixCells_2 9 rfl rfl)
theorem dX9_mixCells_56 : decode cX9_mixCells 56 = .ok (.invokestatic 252, 3) := dk_184 0 252 (dk_at dksX9_mixCells_2 10 rfl rfl)
theorem dX9_mixCells_59 : decode cX9_mixCells 59 = .ok (.lstore_n 3, 1) := dk_66 (dk_at dksX9_mixCells_2 13 rfl rfl)
theorem dX9_mixCells_60 : decode cX9_mixCells 60 = .ok (.lload_n 3, 1) := dk_33 (dk_at dksX9_mixCells_2 14 rfl rfl)
theorem dX9_mixCells_61 : decode cX9_mixCells 61 = .ok (.iload 5, 2) := dk_21 5 (dk_at dksX9_mixCells_2 15 rfl rfl)
theorem dX9_mixCells_63 : decode cX9_mixCells 63 = .ok (.aload_n 0, 1) := dk_42 (dk_at dksX9_mixCells_2 17 rfl rfl)
theorem dX9_mixCells_64 : decode cX9_mixCells 64 = .ok (.getfield 7, 3) := dk_180 0 7 (dk_at dksX9_mixCells_2 18 rfl rfl)
theorem dX9_mixCells_67 : decode cX9_mixCells 67 = .ok (.bipush 64, 2) := dk_16 64 (dk_at dksX9_mixCells_2 21 rfl rfl)
theorem dX9_mixCells_69 : decode cX9_mixCells 69 = .ok (.iaload, 1) := dk_46 (dk_at dksX9_mixCells_2 23 rfl rfl)
theorem dX9_mixCells_70 : decode cX9_mixCells 70 = .ok (.invokestatic 200, 3) := dk_184 0 200 (dk_at dksX9_mixCells_3 0 rfl rfl)
theorem dX9_mixCells_73 : decode cX9_mixCells 73 = .ok (.i2l, 1) := dk_133 (dk_at dksX9_mixCells_3 3 rfl rfl)
theorem dX9_mixCells_74 : decode cX9_mixCells 74 = .ok (.invokestatic 252, 3) := dk_184 0 252 (dk_at dksX9_mixCells_3 4 rfl rfl)
theorem dX9_mixCells_77 : decode cX9_mixCells 77 = .ok (.aload_n 0, 1) := dk_42 (dk_at dksX9_mixCells_3 7 rfl rfl)
theorem dX9_mixCells_78 : decode cX9_mixCells 78 = .ok (.getfield 25, 3) := dk_180 0 25 (dk_at dksX9_mixCells_3 8 rfl rfl)
theorem dX9_mixCells_81 : decode cX9_mixCells 81 = .ok (.iload 5, 2) := dk_21 5 (dk_at dksX9_mixCells_3 11 rfl rfl)
theorem dX9_mixCells_83 : decode cX9_mixCells 83 = .ok (.iaload, 1) := dk_46 (dk_at dksX9_mixCells_3 13 rfl rfl)
theorem dX9_mixCells_84 : decode cX9_mixCells 84 = .ok (.i2l, 1) := dk_133 (dk_at dksX9_mixCells_3 14 rfl rfl)
theorem dX9_mixCells_85 : decode cX9_mixCells 85 = .ok (.invokestatic 252, 3) := dk_184 0 252 (dk_at dksX9_mixCells_3 15 rfl rfl)
theorem dX9_mixCells_88 : decode cX9_mixCells 88 = .ok (.aload_n 0, 1) := dk_42 (dk_at dksX9_mixCells_3 18 rfl rfl)
theorem dX9_mixCells_89 : decode cX9_mixCells 89 = .ok (.getfield 25, 3) := dk_180 0 25 (dk_at dksX9_mixCells_3 19 rfl rfl)
theorem dX9_mixCells_92 : decode cX9_mixCells 92 = .ok (.iload 5, 2) := dk_21 5 (dk_at dksX9_mixCells_3 22 rfl rfl)
theorem dX9_mixCells_94 : decode cX9_mixCells 94 = .ok (.iaload, 1) := dk_46 (dk_at dksX9_mixCells_4 0 rfl rfl)
theorem dX9_mixCells_95 : decode cX9_mixCells 95 = .ok (.i2l, 1) := dk_133 (dk_at dksX9_mixCells_4 1 rfl rfl)
theorem dX9_mixCells_96 : decode cX9_mixCells 96 = .ok (.invokestatic 252, 3) := dk_184 0 252 (dk_at dksX9_mixCells_4 2 rfl rfl)
theorem dX9_mixCells_99 : decode cX9_mixCells 99 = .ok (.lstore_n 3, 1) := dk_66 (dk_at dksX9_mixCells_4 5 rfl rfl)
theorem dX9_mixCells_100 : decode cX9_mixCells 100 = .ok (.iinc 5 1, 3) := dk_132 5 1 (dk_at dksX9_mixCells_4 6 rfl rfl)
theorem dX9_mixCells_103 : decode cX9_mixCells 103 = .ok (.goto (-90), 3) := dk_167 255 166 (dk_at dksX9_mixCells_4 9 rfl rfl)
theorem dX9_mixCells_106 : decode cX9_mixCells 106 = .ok (.iconst 0, 1) := dk_3 (dk_at dksX9_mixCells_4 12 rfl rfl)
theorem dX9_mixCells_107 : decode cX9_mixCells 107 = .ok (.istore 5, 2) := dk_54 5 (dk_at dksX9_mixCells_4 13 rfl rfl)
theorem dX9_mixCells_109 : decode cX9_mixCells 109 = .ok (.iload 5, 2) := dk_21 5 (dk_at dksX9_mixCells_4 15 rfl rfl)
theorem dX9_mixCells_111 : decode cX9_mixCells 111 = .ok (.bipush 10, 2) := dk_16 10 (dk_at dksX9_mixCells_4 17 rfl rfl)
theorem dX9_mixCells_113 : decode cX9_mixCells 113 = .ok (.if_icmp .ge 21, 3) := dk_162 0 21 (dk_at dksX9_mixCells_4 19 rfl rfl)
theorem dX9_mixCells_116 : decode cX9_mixCells 116 = .ok (.lload_n 3, 1) := dk_33 (dk_at dksX9_mixCells_4 22 rfl rfl)
theorem dX9_mixCells_117 : decode cX9_mixCells 117 = .ok (.aload_n 0, 1) := dk_42 (dk_at dksX9_mixCells_4 23 rfl rfl)
theorem dX9_mixCells_118 : decode cX9_mixCells 118 = .ok (.iload 5, 2) := dk_21 5 (dk_at dksX9_mixCells_5 0 rfl rfl)
theorem dX9_mixCells_120 : decode cX9_mixCells 120 = .ok (.invokevirtual 203, 3) := dk_182 0 203 (dk_at dksX9_mixCells_5 2 rfl rfl)
theorem dX9_mixCells_123 : decode cX9_mixCells 123 = .ok (.i2l, 1) := dk_133 (dk_at dksX9_mixCells_5 5 rfl rfl)
theorem dX9_mixCells_124 : decode cX9_mixCells 124 = .ok (.invokestatic 252, 3) := dk_184 0 252 (dk_at dksX9_mixCells_5 6 rfl rfl)
theorem dX9_mixCells_127 : decode cX9_mixCells 127 = .ok (.lstore_n 3, 1) := dk_66 (dk_at dksX9_mixCells_5 9 rfl rfl)
theorem dX9_mixCells_128 : decode cX9_mixCells 128 = .ok (.iinc 5 1, 3) := dk_132 5 1 (dk_at dksX9_mixCells_5 10 rfl rfl)
theorem dX9_mixCells_131 : decode cX9_mixCells 131 = .ok (.goto (-22), 3) := dk_167 255 234 (dk_at dksX9_mixCells_5 13 rfl rfl)
theorem dX9_mixCells_134 : decode cX9_mixCells 134 = .ok (.lload_n 3, 1) := dk_33 (dk_at dksX9_mixCells_5 16 rfl rfl)
theorem dX9_mixCells_135 : decode cX9_mixCells 135 = .ok (.lreturn, 1) := dk_173 (dk_at dksX9_mixCells_5 17 rfl rfl)
abbrev cX9_mixCrumbs : ByteArray := prog_11_method_103_code
def yX9_mixCrumbs : MethodName := ⟨RX9, "mixCrumbs", "(J)J"⟩
def dkwX9_mixCrumbs_6 : List UInt8 := [184, 0, 252, 173]
abbrev dktX9_mixCrumbs_6 : List UInt8 := dkwX9_mixCrumbs_6 ++ []
def dkwX9_mixCrumbs_5 : List UInt8 := [167, 255, 234, 33, 42, 16, 100, 182, 0, 133, 133, 184, 0, 252, 42, 17, 3, 232, 182, 0, 133, 133]
abbrev dktX9_mixCrumbs_5 : List UInt8 := dkwX9_mixCrumbs_5 ++ dktX9_mixCrumbs_6
def dkwX9_mixCrumbs_4 : List UInt8 := [21, 5, 16, 8, 162, 0, 21, 33, 42, 21, 5, 182, 0, 136, 133, 184, 0, 252, 66, 132, 5, 1]
abbrev dktX9_mixCrumbs_4 : List UInt8 := dkwX9_mixCrumbs_4 ++ dktX9_mixCrumbs_5
def dkwX9_mixCrumbs_3 : List UInt8 := [184, 0, 252, 42, 21, 6, 182, 0, 176, 133, 184, 0, 252, 66, 132, 5, 1, 167, 255, 173, 3, 54, 5]
abbrev dktX9_mixCrumbs_3 : List UInt8 := dkwX9_mixCrumbs_3 ++ dktX9_mixCrumbs_4
def dkwX9_mixCrumbs_2 : List UInt8 := [184, 0, 252, 42, 21, 6, 182, 0, 130, 133, 184, 0, 252, 66, 33, 21, 7, 133, 184, 0, 252, 21, 7, 133]
abbrev dktX9_mixCrumbs_2 : List UInt8 := dkwX9_mixCrumbs_2 ++ dktX9_mixCrumbs_3
def dkwX9_mixCrumbs_1 : List UInt8 := [182, 0, 143, 54, 7, 33, 42, 21, 6, 182, 0, 115, 133, 184, 0, 252, 42, 21, 6, 182, 0, 124, 133]
abbrev dktX9_mixCrumbs_1 : List UInt8 := dkwX9_mixCrumbs_1 ++ dktX9_mixCrumbs_2
def dkwX9_mixCrumbs_0 : List UInt8 := [31, 66, 3, 54, 5, 21, 5, 16, 9, 162, 0, 82, 42, 180, 0, 37, 21, 5, 46, 54, 6, 42, 21, 6]
abbrev dktX9_mixCrumbs_0 : List UInt8 := dkwX9_mixCrumbs_0 ++ dktX9_mixCrumbs_1
theorem dksX9_mixCrumbs_0 : cX9_mixCrumbs.data.toList.drop 0 = dktX9_mixCrumbs_0 := by decide +kernel
theorem dksX9_mixCrumbs_1 : cX9_mixCrumbs.data.toList.drop 24 = dktX9_mixCrumbs_1 := dk_seg dksX9_mixCrumbs_0 24 rfl rfl
theorem dksX9_mixCrumbs_2 : cX9_mixCrumbs.data.toList.drop 47 = dktX9_mixCrumbs_2 := dk_seg dksX9_mixCrumbs_1 23 rfl rfl
theorem dksX9_mixCrumbs_3 : cX9_mixCrumbs.data.toList.drop 71 = dktX9_mixCrumbs_3 := dk_seg dksX9_mixCrumbs_2 24 rfl rfl
theorem dksX9_mixCrumbs_4 : cX9_mixCrumbs.data.toList.drop 94 = dktX9_mixCrumbs_4 := dk_seg dksX9_mixCrumbs_3 23 rfl rfl
theorem dksX9_mixCrumbs_5 : cX9_mixCrumbs.data.toList.drop 116 = dktX9_mixCrumbs_5 := dk_seg dksX9_mixCrumbs_4 22 rfl rfl
theorem dksX9_mixCrumbs_6 : cX9_mixCrumbs.data.toList.drop 138 = dktX9_mixCrumbs_6 := dk_seg dksX9_mixCrumbs_5 22 rfl rfl
theorem dX9_mixCrumbs_0 : decode cX9_mixCrumbs 0 = .ok (.lload_n 1, 1) := dk_31 (dk_at dksX9_mixCrumbs_0 0 rfl rfl)
theorem dX9_mixCrumbs_1 : decode cX9_mixCrumbs 1 = .ok (.lstore_n 3, 1) := dk_66 (dk_at dksX9_mixCrumbs_0 1 rfl rfl)
theorem dX9_mixCrumbs_2 : decode cX9_mixCrumbs 2 = .ok (.iconst 0, 1) := dk_3 (dk_at dksX9_mixCrumbs_0 2 rfl rfl)
theorem dX9_mixCrumbs_3 : decode cX9_mixCrumbs 3 = .ok (.istore 5, 2) := dk_54 5 (dk_at dksX9_mixCrumbs_0 3 rfl rfl)
theorem dX9_mixCrumbs_5 : decode cX9_mixCrumbs 5 = .ok (.iload 5, 2) := dk_21 5 (dk_at dksX9_mixCrumbs_0 5 rfl rfl)
theorem dX9_mixCrumbs_7 : decode cX9_mixCrumbs 7 = .ok (.bipush 9, 2) := dk_16 9 (dk_at dksX9_mixCrumbs_0 7 rfl rfl)
theorem dX9_mixCrumbs_9 : decode cX9_mixCrumbs 9 = .ok (.if_icmp .ge 82, 3) := dk_162 0 82 (dk_at dksX9_mixCrumbs_0 9 rfl rfl)
theorem dX9_mixCrumbs_12 : decode cX9_mixCrumbs 12 = .ok (.aload_n 0, 1) := dk_42 (dk_at dksX9_mixCrumbs_0 12 rfl rfl)
theorem dX9_mixCrumbs_13 : decode cX9_mixCrumbs 13 = .ok (.getfield 37, 3) := dk_180 0 37 (dk_at dksX9_mixCrumbs_0 13 rfl rfl)
theorem dX9_mixCrumbs_16 : decode cX9_mixCrumbs 16 = .ok (.iload 5, 2) := dk_21 5 (dk_at dksX9_mixCrumbs_0 16 rfl rfl)
theorem dX9_mixCrumbs_18 : decode cX9_mixCrumbs 18 = .ok (.iaload, 1) := dk_46 (dk_at dksX9_mixCrumbs_0 18 rfl rfl)
theorem dX9_mixCrumbs_19 : decode cX9_mixCrumbs 19 = .ok (.istore 6, 2) := dk_54 6 (dk_at dksX9_mixCrumbs_0 19 rfl rfl)
theorem dX9_mixCrumbs_21 : decode cX9_mixCrumbs 21 = .ok (.aload_n 0, 1) := dk_42 (dk_at dksX9_mixCrumbs_0 21 rfl rfl)
theorem dX9_mixCrumbs_22 : decode cX9_mixCrumbs 22 = .ok (.iload 6, 2) := dk_21 6 (dk_at dksX9_mixCrumbs_0 22 rfl rfl)
theorem dX9_mixCrumbs_24 : decode cX9_mixCrumbs 24 = .ok (.invokevirtual 143, 3) := dk_182 0 143 (dk_at dksX9_mixCrumbs_1 0 rfl rfl)
theorem dX9_mixCrumbs_27 : decode cX9_mixCrumbs 27 = .ok (.istore 7, 2) := dk_54 7 (dk_at dksX9_mixCrumbs_1 3 rfl rfl)
theorem dX9_mixCrumbs_29 : decode cX9_mixCrumbs 29 = .ok (.lload_n 3, 1) := dk_33 (dk_at dksX9_mixCrumbs_1 5 rfl rfl)
theorem dX9_mixCrumbs_30 : decode cX9_mixCrumbs 30 = .ok (.aload_n 0, 1) := dk_42 (dk_at dksX9_mixCrumbs_1 6 rfl rfl)
theorem dX9_mixCrumbs_31 : decode cX9_mixCrumbs 31 = .ok (.iload 6, 2) := dk_21 6 (dk_at dksX9_mixCrumbs_1 7 rfl rfl)
theorem dX9_mixCrumbs_33 : decode cX9_mixCrumbs 33 = .ok (.invokevirtual 115, 3) := dk_182 0 115 (dk_at dksX9_mixCrumbs_1 9 rfl rfl)
theorem dX9_mixCrumbs_36 : decode cX9_mixCrumbs 36 = .ok (.i2l, 1) := dk_133 (dk_at dksX9_mixCrumbs_1 12 rfl rfl)
theorem dX9_mixCrumbs_37 : decode cX9_mixCrumbs 37 = .ok (.invokestatic 252, 3) := dk_184 0 252 (dk_at dksX9_mixCrumbs_1 13 rfl rfl)
theorem dX9_mixCrumbs_40 : decode cX9_mixCrumbs 40 = .ok (.aload_n 0, 1) := dk_42 (dk_at dksX9_mixCrumbs_1 16 rfl rfl)
theorem dX9_mixCrumbs_41 : decode cX9_mixCrumbs 41 = .ok (.iload 6, 2) := dk_21 6 (dk_at dksX9_mixCrumbs_1 17 rfl rfl)
theorem dX9_mixCrumbs_43 : decode cX9_mixCrumbs 43 = .ok (.invokevirtual 124, 3) := dk_182 0 124 (dk_at dksX9_mixCrumbs_1 19 rfl rfl)
theorem dX9_mixCrumbs_46 : decode cX9_mixCrumbs 46 = .ok (.i2l, 1) := dk_133 (dk_at dksX9_mixCrumbs_1 22 rfl rfl)
theorem dX9_mixCrumbs_47 : decode cX9_mixCrumbs 47 = .ok (.invokestatic 252, 3) := dk_184 0 252 (dk_at dksX9_mixCrumbs_2 0 rfl rfl)
theorem dX9_mixCrumbs_50 : decode cX9_mixCrumbs 50 = .ok (.aload_n 0, 1) := dk_42 (dk_at dksX9_mixCrumbs_2 3 rfl rfl)
theorem dX9_mixCrumbs_51 : decode cX9_mixCrumbs 51 = .ok (.iload 6, 2) := dk_21 6 (dk_at dksX9_mixCrumbs_2 4 rfl rfl)
theorem dX9_mixCrumbs_53 : decode cX9_mixCrumbs 53 = .ok (.invokevirtual 130, 3) := dk_182 0 130 (dk_at dksX9_mixCrumbs_2 6 rfl rfl)
theorem dX9_mixCrumbs_56 : decode cX9_mixCrumbs 56 = .ok (.i2l, 1) := dk_133 (dk_at dksX9_mixCrumbs_2 9 rfl rfl)
theorem dX9_mixCrumbs_57 : decode cX9_mixCrumbs 57 = .ok (.invokestatic 252, 3) := dk_184 0 252 (dk_at dksX9_mixCrumbs_2 10 rfl rfl)
theorem dX9_mixCrumbs_60 : decode cX9_mixCrumbs 60 = .ok (.lstore_n 3, 1) := dk_66 (dk_at dksX9_mixCrumbs_2 13 rfl rfl)
theorem dX9_mixCrumbs_61 : decode cX9_mixCrumbs 61 = .ok (.lload_n 3, 1) := dk_33 (dk_at dksX9_mixCrumbs_2 14 rfl rfl)
theorem dX9_mixCrumbs_62 : decode cX9_mixCrumbs 62 = .ok (.iload 7, 2) := dk_21 7 (dk_at dksX9_mixCrumbs_2 15 rfl rfl)
theorem dX9_mixCrumbs_64 : decode cX9_mixCrumbs 64 = .ok (.i2l, 1) := dk_133 (dk_at dksX9_mixCrumbs_2 17 rfl rfl)
theorem dX9_mixCrumbs_65 : decode cX9_mixCrumbs 65 = .ok (.invokestatic 252, 3) := dk_184 0 252 (dk_at dksX9_mixCrumbs_2 18 rfl rfl)
theorem dX9_mixCrumbs_68 : decode cX9_mixCrumbs 68 = .ok (.iload 7, 2) := dk_21 7 (dk_at dksX9_mixCrumbs_2 21 rfl rfl)
theorem dX9_mixCrumbs_70 : decode cX9_mixCrumbs 70 = .ok (.i2l, 1) := dk_133 (dk_at dksX9_mixCrumbs_2 23 rfl rfl)
theorem dX9_mixCrumbs_71 : decode cX9_mixCrumbs 71 = .ok (.invokestatic 252, 3) := dk_184 0 252 (dk_at dksX9_mixCrumbs_3 0 rfl rfl)
theorem dX9_mixCrumbs_74 : decode cX9_mixCrumbs 74 = .ok (.aload_n 0, 1) := dk_42 (dk_at dksX9_mixCrumbs_3 3 rfl rfl)
theorem dX9_mixCrumbs_75 : decode cX9_mixCrumbs 75 = .ok (.iload 6, 2) := dk_21 6 (dk_at dksX9_mixCrumbs_3 4 rfl rfl)
theorem dX9_mixCrumbs_77 : decode cX9_mixCrumbs 77 = .ok (.invokevirtual 176, 3) := dk_182 0 176 (dk_at dksX9_mixCrumbs_3 6 rfl rfl)
theorem dX9_mixCrumbs_80 : decode cX9_mixCrumbs 80 = .ok (.i2l, 1) := dk_133 (dk_at dksX9_mixCrumbs_3 9 rfl rfl)
theorem dX9_mixCrumbs_81 : decode cX9_mixCrumbs 81 = .ok (.invokestatic 252, 3) := dk_184 0 252 (dk_at dksX9_mixCrumbs_3 10 rfl rfl)
theorem dX9_mixCrumbs_84 : decode cX9_mixCrumbs 84 = .ok (.lstore_n 3, 1) := dk_66 (dk_at dksX9_mixCrumbs_3 13 rfl rfl)
theorem dX9_mixCrumbs_85 : decode cX9_mixCrumbs 85 = .ok (.iinc 5 1, 3) := dk_132 5 1 (dk_at dksX9_mixCrumbs_3 14 rfl rfl)
theorem dX9_mixCrumbs_88 : decode cX9_mixCrumbs 88 = .ok (.goto (-83), 3) := dk_167 255 173 (dk_at dksX9_mixCrumbs_3 17 rfl rfl)
theorem dX9_mixCrumbs_91 : decode cX9_mixCrumbs 91 = .ok (.iconst 0, 1) := dk_3 (dk_at dksX9_mixCrumbs_3 20 rfl rfl)
theorem dX9_mixCrumbs_92 : decode cX9_mixCrumbs 92 = .ok (.istore 5, 2) := dk_54 5 (dk_at dksX9_mixCrumbs_3 21 rfl rfl)
theorem dX9_mixCrumbs_94 : decode cX9_mixCrumbs 94 = .ok (.iload 5, 2) := dk_21 5 (dk_at dksX9_mixCrumbs_4 0 rfl rfl)
theorem dX9_mixCrumbs_96 : decode cX9_mixCrumbs 96 = .ok (.bipush 8, 2) := dk_16 8 (dk_at dksX9_mixCrumbs_4 2 rfl rfl)
theorem dX9_mixCrumbs_98 : decode cX9_mixCrumbs 98 = .ok (.if_icmp .ge 21, 3) := dk_162 0 21 (dk_at dksX9_mixCrumbs_4 4 rfl rfl)
theorem dX9_mixCrumbs_101 : decode cX9_mixCrumbs 101 = .ok (.lload_n 3, 1) := dk_33 (dk_at dksX9_mixCrumbs_4 7 rfl rfl)
theorem dX9_mixCrumbs_102 : decode cX9_mixCrumbs 102 = .ok (.aload_n 0, 1) := dk_42 (dk_at dksX9_mixCrumbs_4 8 rfl rfl)
theorem dX9_mixCrumbs_103 : decode cX9_mixCrumbs 103 = .ok (.iload 5, 2) := dk_21 5 (dk_at dksX9_mixCrumbs_4 9 rfl rfl)
theorem dX9_mixCrumbs_105 : decode cX9_mixCrumbs 105 = .ok (.invokevirtual 136, 3) := dk_182 0 136 (dk_at dksX9_mixCrumbs_4 11 rfl rfl)
theorem dX9_mixCrumbs_108 : decode cX9_mixCrumbs 108 = .ok (.i2l, 1) := dk_133 (dk_at dksX9_mixCrumbs_4 14 rfl rfl)
theorem dX9_mixCrumbs_109 : decode cX9_mixCrumbs 109 = .ok (.invokestatic 252, 3) := dk_184 0 252 (dk_at dksX9_mixCrumbs_4 15 rfl rfl)
theorem dX9_mixCrumbs_112 : decode cX9_mixCrumbs 112 = .ok (.lstore_n 3, 1) := dk_66 (dk_at dksX9_mixCrumbs_4 18 rfl rfl)
theorem dX9_mixCrumbs_113 : decode cX9_mixCrumbs 113 = .ok (.iinc 5 1, 3) := dk_132 5 1 (dk_at dksX9_mixCrumbs_4 19 rfl rfl)
theorem dX9_mixCrumbs_116 : decode cX9_mixCrumbs 116 = .ok (.goto (-22), 3) := dk_167 255 234 (dk_at dksX9_mixCrumbs_5 0 rfl rfl)
theorem dX9_mixCrumbs_119 : decode cX9_mixCrumbs 119 = .ok (.lload_n 3, 1) := dk_33 (dk_at dksX9_mixCrumbs_5 3 rfl rfl)
theorem dX9_mixCrumbs_120 : decode cX9_mixCrumbs 120 = .ok (.aload_n 0, 1) := dk_42 (dk_at dksX9_mixCrumbs_5 4 rfl rfl)
theorem dX9_mixCrumbs_121 : decode cX9_mixCrumbs 121 = .ok (.bipush 100, 2) := dk_16 100 (dk_at dksX9_mixCrumbs_5 5 rfl rfl)
theorem dX9_mixCrumbs_123 : decode cX9_mixCrumbs 123 = .ok (.invokevirtual 133, 3) := dk_182 0 133 (dk_at dksX9_mixCrumbs_5 7 rfl rfl)
theorem dX9_mixCrumbs_126 : decode cX9_mixCrumbs 126 = .ok (.i2l, 1) := dk_133 (dk_at dksX9_mixCrumbs_5 10 rfl rfl)
theorem dX9_mixCrumbs_127 : decode cX9_mixCrumbs 127 = .ok (.invokestatic 252, 3) := dk_184 0 252 (dk_at dksX9_mixCrumbs_5 11 rfl rfl)
theorem dX9_mixCrumbs_130 : decode cX9_mixCrumbs 130 = .ok (.aload_n 0, 1) := dk_42 (dk_at dksX9_mixCrumbs_5 14 rfl rfl)
theorem dX9_mixCrumbs_131 : decode cX9_mixCrumbs 131 = .ok (.sipush 1000, 3) := dk_17 3 232 (dk_at dksX9_mixCrumbs_5 15 rfl rfl)
theorem dX9_mixCrumbs_134 : decode cX9_mixCrumbs 134 = .ok (.invokevirtual 133, 3) := dk_182 0 133 (dk_at dksX9_mixCrumbs_5 18 rfl rfl)
theorem dX9_mixCrumbs_137 : decode cX9_mixCrumbs 137 = .ok (.i2l, 1) := dk_133 (dk_at dksX9_mixCrumbs_5 21 rfl rfl)
theorem dX9_mixCrumbs_138 : decode cX9_mixCrumbs 138 = .ok (.invokestatic 252, 3) := dk_184 0 252 (dk_at dksX9_mixCrumbs_6 0 rfl rfl)
theorem dX9_mixCrumbs_141 : decode cX9_mixCrumbs 141 = .ok (.lreturn, 1) := dk_173 (dk_at dksX9_mixCrumbs_6 3 rfl rfl)
theorem q129 : (Jvm.Cond.initialized "CrumbPicturesModel") ∈ lw_all := lw_g (lw_at lw_m1 24 rfl) rfl
theorem q607 : (Jvm.Cond.selects "CrumbPicturesModel" ({ cls := "java/lang/Object", name := "getClass", desc := "()Ljava/lang/Class;" } : Jvm.MethodName) ({ cls := "java/lang/Object", name := "getClass", desc := "()Ljava/lang/Class;" } : Jvm.MethodName)) ∈ lw_all := lw_g (lw_at lw_m3 22 rfl) rfl
theorem q1662 : (Jvm.Cond.instantiable "CrumbPicturesModel" (21 : Nat)) ∈ lw_all := lw_g (lw_at lw_m7 117 rfl) rfl
theorem q1664 : (Jvm.Cond.instanceMethod ({ cls := "CrumbPicturesModel", name := "<init>", desc := "()V" } : Jvm.MethodName)) ∈ lw_all := lw_g (lw_at lw_m7 119 rfl) rfl
theorem q1665 : (Jvm.Cond.code ({ cls := "CrumbPicturesModel", name := "<init>", desc := "()V" } : Jvm.MethodName) prog_11_method_1_code (2 : Nat) (Option.none : Option Jvm.ClassFile.FieldType)) ∈ lw_all := lw_g (lw_at lw_m7 120 rfl) rfl
theorem q1666 : (Jvm.Cond.methodLink "CrumbPicturesModel" (1 : Nat) ({ cls := "java/lang/Object", name := "<init>", desc := "()V" } : Jvm.MethodName)) ∈ lw_all := lw_g (lw_at lw_m7 121 rfl) rfl
theorem q1667 : (Jvm.Cond.fieldLink "CrumbPicturesModel" (52 : Nat) "CrumbPicturesModel" "thrown" "I") ∈ lw_all := lw_g (lw_at lw_m7 122 rfl) rfl
theorem q1668 : (Jvm.Cond.fieldLink "CrumbPicturesModel" (7 : Nat) "CrumbPicturesModel" "state" "[I") ∈ lw_all := lw_g (lw_at lw_m7 123 rfl) rfl
theorem q1669 : (Jvm.Cond.fieldLink "CrumbPicturesModel" (13 : Nat) "CrumbPicturesModel" "history" "[I") ∈ lw_all := lw_g (lw_at lw_m7 124 rfl) rfl
theorem q1670 : (Jvm.Cond.fieldLink "CrumbPicturesModel" (60 : Nat) "CrumbPicturesModel" "states" "I") ∈ lw_all := lw_g (lw_at lw_m7 125 rfl) rfl
theorem q1671 : (Jvm.Cond.fieldLink "CrumbPicturesModel" (16 : Nat) "CrumbPicturesModel" "snapshot" "[I") ∈ lw_all := lw_g (lw_at lw_m7 126 rfl) rfl
theorem q1672 : (Jvm.Cond.fieldLink "CrumbPicturesModel" (67 : Nat) "CrumbPicturesModel" "hasSnapshot" "Z") ∈ lw_all := lw_g (lw_at lw_m7 127 rfl) rfl
theorem q1673 : (Jvm.Cond.fieldLink "CrumbPicturesModel" (19 : Nat) "CrumbPicturesModel" "text" "[I") ∈ lw_all := lw_g (lw_at lw_m7 128 rfl) rfl
theorem q1674 : (Jvm.Cond.fieldLink "CrumbPicturesModel" (212 : Nat) "CrumbPicturesModel" "length" "I") ∈ lw_all := lw_g (lw_at lw_m7 129 rfl) rfl
theorem q1675 : (Jvm.Cond.fieldLink "CrumbPicturesModel" (22 : Nat) "CrumbPicturesModel" "parts" "[I") ∈ lw_all := lw_g (lw_at lw_m7 130 rfl) rfl
theorem q1676 : (Jvm.Cond.fieldLink "CrumbPicturesModel" (25 : Nat) "CrumbPicturesModel" "back" "[I") ∈ lw_all := lw_g (lw_at lw_m7 131 rfl) rfl
theorem q1677 : (Jvm.Cond.fieldLink "CrumbPicturesModel" (28 : Nat) "CrumbPicturesModel" "line" "[I") ∈ lw_all := lw_g (lw_at lw_m7 132 rfl) rfl
theorem q1678 : (Jvm.Cond.fieldLink "CrumbPicturesModel" (31 : Nat) "CrumbPicturesModel" "order" "[I") ∈ lw_all := lw_g (lw_at lw_m7 133 rfl) rfl
theorem q1679 : (Jvm.Cond.fieldLink "CrumbPicturesModel" (34 : Nat) "CrumbPicturesModel" "others" "[I") ∈ lw_all := lw_g (lw_at lw_m7 134 rfl) rfl
theorem q1680 : (Jvm.Cond.fieldLink "CrumbPicturesModel" (37 : Nat) "CrumbPicturesModel" "thresholds" "[I") ∈ lw_all := lw_g (lw_at lw_m7 135 rfl) rfl
theorem q1681 : (Jvm.Cond.fieldLink "CrumbPicturesModel" (218 : Nat) "CrumbPicturesModel" "at" "I") ∈ lw_all := lw_g (lw_at lw_m7 136 rfl) rfl
theorem q1682 : (Jvm.Cond.fieldLink "CrumbPicturesModel" (215 : Nat) "CrumbPicturesModel" "number" "I") ∈ lw_all := lw_g (lw_at lw_m7 137 rfl) rfl
theorem q1683 : (Jvm.Cond.fieldLink "CrumbPicturesModel" (224 : Nat) "CrumbPicturesModel" "many" "I") ∈ lw_all := lw_g (lw_at lw_m7 138 rfl) rfl
theorem q1684 : (Jvm.Cond.fieldLink "CrumbPicturesModel" (40 : Nat) "CrumbPicturesModel" "letter" "[I") ∈ lw_all := lw_g (lw_at lw_m7 139 rfl) rfl
theorem q1685 : (Jvm.Cond.fieldLink "CrumbPicturesModel" (43 : Nat) "CrumbPicturesModel" "first" "[I") ∈ lw_all := lw_g (lw_at lw_m7 140 rfl) rfl
theorem q1686 : (Jvm.Cond.fieldLink "CrumbPicturesModel" (46 : Nat) "CrumbPicturesModel" "second" "[I") ∈ lw_all := lw_g (lw_at lw_m7 141 rfl) rfl
theorem q1687 : (Jvm.Cond.fieldLink "CrumbPicturesModel" (49 : Nat) "CrumbPicturesModel" "third" "[I") ∈ lw_all := lw_g (lw_at lw_m7 142 rfl) rfl
theorem q1688 : (Jvm.Cond.lays "CrumbPicturesModel" "CrumbPicturesModel" "thrown" "I") ∈ lw_all := lw_g (lw_at lw_m7 143 rfl) rfl
theorem q1689 : (Jvm.Cond.soleField "CrumbPicturesModel" "thrown") ∈ lw_all := lw_g (lw_at lw_m7 144 rfl) rfl
theorem q1690 : (Jvm.Cond.laysFinal "CrumbPicturesModel" "CrumbPicturesModel" "state" "[I") ∈ lw_all := lw_g (lw_at lw_m7 145 rfl) rfl
theorem q1691 : (Jvm.Cond.soleField "CrumbPicturesModel" "state") ∈ lw_all := lw_g (lw_at lw_m7 146 rfl) rfl
theorem q1692 : (Jvm.Cond.laysFinal "CrumbPicturesModel" "CrumbPicturesModel" "history" "[I") ∈ lw_all := lw_g (lw_at lw_m7 147 rfl) rfl
theorem q1693 : (Jvm.Cond.soleField "CrumbPicturesModel" "history") ∈ lw_all := lw_g (lw_at lw_m7 148 rfl) rfl
theorem q1694 : (Jvm.Cond.lays "CrumbPicturesModel" "CrumbPicturesModel" "states" "I") ∈ lw_all := lw_g (lw_at lw_m7 149 rfl) rfl
theorem q1695 : (Jvm.Cond.soleField "CrumbPicturesModel" "states") ∈ lw_all := lw_g (lw_at lw_m7 150 rfl) rfl
theorem q1696 : (Jvm.Cond.laysFinal "CrumbPicturesModel" "CrumbPicturesModel" "snapshot" "[I") ∈ lw_all := lw_g (lw_at lw_m7 151 rfl) rfl
theorem q1697 : (Jvm.Cond.soleField "CrumbPicturesModel" "snapshot") ∈ lw_all := lw_g (lw_at lw_m7 152 rfl) rfl
theorem q1698 : (Jvm.Cond.lays "CrumbPicturesModel" "CrumbPicturesModel" "hasSnapshot" "Z") ∈ lw_all := lw_g (lw_at lw_m7 153 rfl) rfl
theorem q1699 : (Jvm.Cond.soleField "CrumbPicturesModel" "hasSnapshot") ∈ lw_all := lw_g (lw_at lw_m7 154 rfl) rfl
theorem q1700 : (Jvm.Cond.laysFinal "CrumbPicturesModel" "CrumbPicturesModel" "text" "[I") ∈ lw_all := lw_g (lw_at lw_m7 155 rfl) rfl
theorem q1701 : (Jvm.Cond.soleField "CrumbPicturesModel" "text") ∈ lw_all := lw_g (lw_at lw_m7 156 rfl) rfl
theorem q1702 : (Jvm.Cond.lays "CrumbPicturesModel" "CrumbPicturesModel" "length" "I") ∈ lw_all := lw_g (lw_at lw_m7 157 rfl) rfl
theorem q1703 : (Jvm.Cond.soleField "CrumbPicturesModel" "length") ∈ lw_all := lw_g (lw_at lw_m7 158 rfl) rfl
theorem q1704 : (Jvm.Cond.laysFinal "CrumbPicturesModel" "CrumbPicturesModel" "parts" "[I") ∈ lw_all := lw_g (lw_at lw_m7 159 rfl) rfl
theorem q1705 : (Jvm.Cond.soleField "CrumbPicturesModel" "parts") ∈ lw_all := lw_g (lw_at lw_m7 160 rfl) rfl
theorem q1706 : (Jvm.Cond.laysFinal "CrumbPicturesModel" "CrumbPicturesModel" "back" "[I") ∈ lw_all := lw_g (lw_at lw_m7 161 rfl) rfl
theorem q1707 : (Jvm.Cond.soleField "CrumbPicturesModel" "back") ∈ lw_all := lw_g (lw_at lw_m7 162 rfl) rfl
theorem q1708 : (Jvm.Cond.laysFinal "CrumbPicturesModel" "CrumbPicturesModel" "line" "[I") ∈ lw_all := lw_g (lw_at lw_m7 163 rfl) rfl
theorem q1709 : (Jvm.Cond.soleField "CrumbPicturesModel" "line") ∈ lw_all := lw_g (lw_at lw_m7 164 rfl) rfl
theorem q1710 : (Jvm.Cond.laysFinal "CrumbPicturesModel" "CrumbPicturesModel" "order" "[I") ∈ lw_all := lw_g (lw_at lw_m7 165 rfl) rfl
theorem q1711 : (Jvm.Cond.soleField "CrumbPicturesModel" "order") ∈ lw_all := lw_g (lw_at lw_m7 166 rfl) rfl
theorem q1712 : (Jvm.Cond.laysFinal "CrumbPicturesModel" "CrumbPicturesModel" "others" "[I") ∈ lw_all := lw_g (lw_at lw_m7 167 rfl) rfl
theorem q1713 : (Jvm.Cond.soleField "CrumbPicturesModel" "others") ∈ lw_all := lw_g (lw_at lw_m7 168 rfl) rfl
theorem q1714 : (Jvm.Cond.laysFinal "CrumbPicturesModel" "CrumbPicturesModel" "thresholds" "[I") ∈ lw_all := lw_g (lw_at lw_m7 169 rfl) rfl
theorem q1715 : (Jvm.Cond.soleField "CrumbPicturesModel" "thresholds") ∈ lw_all := lw_g (lw_at lw_m7 170 rfl) rfl
theorem q1716 : (Jvm.Cond.lays "CrumbPicturesModel" "CrumbPicturesModel" "at" "I") ∈ lw_all := lw_g (lw_at lw_m7 171 rfl) rfl
theorem q1717 : (Jvm.Cond.soleField "CrumbPicturesModel" "at") ∈ lw_all := lw_g (lw_at lw_m7 172 rfl) rfl
theorem q1718 : (Jvm.Cond.lays "CrumbPicturesModel" "CrumbPicturesModel" "number" "I") ∈ lw_all := lw_g (lw_at lw_m7 173 rfl) rfl
theorem q1719 : (Jvm.Cond.soleField "CrumbPicturesModel" "number") ∈ lw_all := lw_g (lw_at lw_m7 174 rfl) rfl
theorem q1720 : (Jvm.Cond.lays "CrumbPicturesModel" "CrumbPicturesModel" "many" "I") ∈ lw_all := lw_g (lw_at lw_m7 175 rfl) rfl
theorem q1721 : (Jvm.Cond.soleField "CrumbPicturesModel" "many") ∈ lw_all := lw_g (lw_at lw_m7 176 rfl) rfl
theorem q1722 : (Jvm.Cond.laysFinal "CrumbPicturesModel" "CrumbPicturesModel" "letter" "[I") ∈ lw_all := lw_g (lw_at lw_m7 177 rfl) rfl
theorem q1723 : (Jvm.Cond.soleField "CrumbPicturesModel" "letter") ∈ lw_all := lw_g (lw_at lw_m7 178 rfl) rfl
theorem q1724 : (Jvm.Cond.laysFinal "CrumbPicturesModel" "CrumbPicturesModel" "first" "[I") ∈ lw_all := lw_g (lw_at lw_m7 179 rfl) rfl
theorem q1725 : (Jvm.Cond.soleField "CrumbPicturesModel" "first") ∈ lw_all := lw_g (lw_at lw_m7 180 rfl) rfl
theorem q1726 : (Jvm.Cond.laysFinal "CrumbPicturesModel" "CrumbPicturesModel" "second" "[I") ∈ lw_all := lw_g (lw_at lw_m7 181 rfl) rfl
theorem q1727 : (Jvm.Cond.soleField "CrumbPicturesModel" "second") ∈ lw_all := lw_g (lw_at lw_m7 182 rfl) rfl
theorem q1728 : (Jvm.Cond.laysFinal "CrumbPicturesModel" "CrumbPicturesModel" "third" "[I") ∈ lw_all := lw_g (lw_at lw_m7 183 rfl) rfl
theorem q1729 : (Jvm.Cond.soleField "CrumbPicturesModel" "third") ∈ lw_all := lw_g (lw_at lw_m7 184 rfl) rfl
theorem q1730 : (Jvm.Cond.superclass "CrumbPicturesModel" "java/lang/Object") ∈ lw_all := lw_g (lw_at lw_m7 185 rfl) rfl
theorem q1732 : (Jvm.Cond.instanceMethod ({ cls := "CrumbPicturesModel", name := "thrown", desc := "()I" } : Jvm.MethodName)) ∈ lw_all := lw_g (lw_at lw_m7 187 rfl) rfl
theorem q1733 : (Jvm.Cond.selects "CrumbPicturesModel" ({ cls := "CrumbPicturesModel", name := "thrown", desc := "()I" } : Jvm.MethodName) ({ cls := "CrumbPicturesModel", name := "thrown", desc := "()I" } : Jvm.MethodName)) ∈ lw_all := lw_g (lw_at lw_m7 188 rfl) rfl
theorem q1734 : (Jvm.Cond.code ({ cls := "CrumbPicturesModel", name := "thrown", desc := "()I" } : Jvm.MethodName) prog_11_method_2_code (1 : Nat) (Option.some Jvm.ClassFile.FieldType.int)) ∈ lw_all := lw_g (lw_at lw_m7 189 rfl) rfl
theorem q1736 : (Jvm.Cond.instanceMethod ({ cls := "CrumbPicturesModel", name := "undo", desc := "()I" } : Jvm.MethodName)) ∈ lw_all := lw_g (lw_at lw_m7 191 rfl) rfl
theorem q1737 : (Jvm.Cond.selects "CrumbPicturesModel" ({ cls := "CrumbPicturesModel", name := "undo", desc := "()I" } : Jvm.MethodName) ({ cls := "CrumbPicturesModel", name := "undo", desc := "()I" } : Jvm.MethodName)) ∈ lw_all := lw_g (lw_at lw_m7 192 rfl) rfl
theorem q1738 : (Jvm.Cond.code ({ cls := "CrumbPicturesModel", name := "undo", desc := "()I" } : Jvm.MethodName) prog_11_method_10_code (2 : Nat) (Option.some Jvm.ClassFile.FieldType.int)) ∈ lw_all := lw_g (lw_at lw_m7 193 rfl) rfl
theorem q1739 : (Jvm.Cond.methodLink "CrumbPicturesModel" (63 : Nat) ({ cls := "CrumbPicturesModel", name := "fails", desc := "(I)I" } : Jvm.MethodName)) ∈ lw_all := lw_g (lw_at lw_m7 194 rfl) rfl
theorem q1740 : (Jvm.Cond.privateMethod ({ cls := "CrumbPicturesModel", name := "fails", desc := "(I)I" } : Jvm.MethodName)) ∈ lw_tbl := lw_at lw_m7 195 rfl
theorem q1741 : (Jvm.Cond.instanceMethod ({ cls := "CrumbPicturesModel", name := "fails", desc := "(I)I" } : Jvm.MethodName)) ∈ lw_all := lw_g (lw_at lw_m7 196 rfl) rfl
theorem q1742 : (Jvm.Cond.code ({ cls := "CrumbPicturesModel", name := "fails", desc := "(I)I" } : Jvm.MethodName) prog_11_method_3_code (2 : Nat) (Option.some Jvm.ClassFile.FieldType.int)) ∈ lw_all := lw_g (lw_at lw_m7 197 rfl) rfl
theorem q1744 : (Jvm.Cond.instanceMethod ({ cls := "CrumbPicturesModel", name := "keep", desc := "()I" } : Jvm.MethodName)) ∈ lw_all := lw_g (lw_at lw_m7 199 rfl) rfl
theorem q1745 : (Jvm.Cond.selects "CrumbPicturesModel" ({ cls := "CrumbPicturesModel", name := "keep", desc := "()I" } : Jvm.MethodName) ({ cls := "CrumbPicturesModel", name := "keep", desc := "()I" } : Jvm.MethodName)) ∈ lw_all := lw_g (lw_at lw_m7 200 rfl) rfl
theorem q1746 : (Jvm.Cond.code ({ cls := "CrumbPicturesModel", name := "keep", desc := "()I" } : Jvm.MethodName) prog_11_method_11_code (2 : Nat) (Option.some Jvm.ClassFile.FieldType.int)) ∈ lw_all := lw_g (lw_at lw_m7 201 rfl) rfl
theorem q1747 : (Jvm.Cond.methodLink "CrumbPicturesModel" (71 : Nat) ({ cls := "CrumbPicturesModel", name := "sumOfShades", desc := "()I" } : Jvm.MethodName)) ∈ lw_all := lw_g (lw_at lw_m7 202 rfl) rfl
theorem q1748 : (Jvm.Cond.privateMethod ({ cls := "CrumbPicturesModel", name := "sumOfShades", desc := "()I" } : Jvm.MethodName)) ∈ lw_tbl := lw_at lw_m7 203 rfl
theorem q1749 : (Jvm.Cond.instanceMethod ({ cls := "CrumbPicturesModel", name := "sumOfShades", desc := "()I" } : Jvm.MethodName)) ∈ lw_all := lw_g (lw_at lw_m7 204 rfl) rfl
theorem q1750 : (Jvm.Cond.code ({ cls := "CrumbPicturesModel", name := "sumOfShades", desc := "()I" } : Jvm.MethodName) prog_11_method_9_code (3 : Nat) (Option.some Jvm.ClassFile.FieldType.int)) ∈ lw_all := lw_g (lw_at lw_m7 205 rfl) rfl
theorem q1752 : (Jvm.Cond.instanceMethod ({ cls := "CrumbPicturesModel", name := "restore", desc := "()I" } : Jvm.MethodName)) ∈ lw_all := lw_g (lw_at lw_m7 207 rfl) rfl
theorem q1753 : (Jvm.Cond.selects "CrumbPicturesModel" ({ cls := "CrumbPicturesModel", name := "restore", desc := "()I" } : Jvm.MethodName) ({ cls := "CrumbPicturesModel", name := "restore", desc := "()I" } : Jvm.MethodName)) ∈ lw_all := lw_g (lw_at lw_m7 208 rfl) rfl
theorem q1754 : (Jvm.Cond.code ({ cls := "CrumbPicturesModel", name := "restore", desc := "()I" } : Jvm.MethodName) prog_11_method_12_code (2 : Nat) (Option.some Jvm.ClassFile.FieldType.int)) ∈ lw_all := lw_g (lw_at lw_m7 209 rfl) rfl
theorem q1755 : (Jvm.Cond.methodLink "CrumbPicturesModel" (75 : Nat) ({ cls := "CrumbPicturesModel", name := "record", desc := "()V" } : Jvm.MethodName)) ∈ lw_all := lw_g (lw_at lw_m7 210 rfl) rfl
theorem q1756 : (Jvm.Cond.privateMethod ({ cls := "CrumbPicturesModel", name := "record", desc := "()V" } : Jvm.MethodName)) ∈ lw_tbl := lw_at lw_m7 211 rfl
theorem q1757 : (Jvm.Cond.instanceMethod ({ cls := "CrumbPicturesModel", name := "record", desc := "()V" } : Jvm.MethodName)) ∈ lw_all := lw_g (lw_at lw_m7 212 rfl) rfl
theorem q1758 : (Jvm.Cond.code ({ cls := "CrumbPicturesModel", name := "record", desc := "()V" } : Jvm.MethodName) prog_11_method_8_code (2 : Nat) (Option.none : Option Jvm.ClassFile.FieldType)) ∈ lw_all := lw_g (lw_at lw_m7 213 rfl) rfl
theorem q1760 : (Jvm.Cond.instanceMethod ({ cls := "CrumbPicturesModel", name := "savedStates", desc := "()I" } : Jvm.MethodName)) ∈ lw_all := lw_g (lw_at lw_m7 215 rfl) rfl
theorem q1761 : (Jvm.Cond.selects "CrumbPicturesModel" ({ cls := "CrumbPicturesModel", name := "savedStates", desc := "()I" } : Jvm.MethodName) ({ cls := "CrumbPicturesModel", name := "savedStates", desc := "()I" } : Jvm.MethodName)) ∈ lw_all := lw_g (lw_at lw_m7 216 rfl) rfl
theorem q1762 : (Jvm.Cond.code ({ cls := "CrumbPicturesModel", name := "savedStates", desc := "()I" } : Jvm.MethodName) prog_11_method_13_code (1 : Nat) (Option.some Jvm.ClassFile.FieldType.int)) ∈ lw_all := lw_g (lw_at lw_m7 217 rfl) rfl
theorem q1764 : (Jvm.Cond.instanceMethod ({ cls := "CrumbPicturesModel", name := "crumbs", desc := "(I)I" } : Jvm.MethodName)) ∈ lw_all := lw_g (lw_at lw_m7 219 rfl) rfl
theorem q1765 : (Jvm.Cond.selects "CrumbPicturesModel" ({ cls := "CrumbPicturesModel", name := "crumbs", desc := "(I)I" } : Jvm.MethodName) ({ cls := "CrumbPicturesModel", name := "crumbs", desc := "(I)I" } : Jvm.MethodName)) ∈ lw_all := lw_g (lw_at lw_m7 220 rfl) rfl
theorem q1766 : (Jvm.Cond.code ({ cls := "CrumbPicturesModel", name := "crumbs", desc := "(I)I" } : Jvm.MethodName) prog_11_method_33_code (2 : Nat) (Option.some Jvm.ClassFile.FieldType.int)) ∈ lw_all := lw_g (lw_at lw_m7 221 rfl) rfl
theorem q1767 : (Jvm.Cond.methodLink "CrumbPicturesModel" (127 : Nat) ({ cls := "CrumbPicturesModel", name := "isShade", desc := "(I)Z" } : Jvm.MethodName)) ∈ lw_all := lw_g (lw_at lw_m7 222 rfl) rfl
theorem q1768 : (Jvm.Cond.static ({ cls := "CrumbPicturesModel", name := "isShade", desc := "(I)Z" } : Jvm.MethodName)) ∈ lw_all := lw_g (lw_at lw_m7 223 rfl) rfl
theorem q1769 : (Jvm.Cond.code ({ cls := "CrumbPicturesModel", name := "isShade", desc := "(I)Z" } : Jvm.MethodName) prog_11_method_6_code (1 : Nat) (Option.some Jvm.ClassFile.FieldType.boolean)) ∈ lw_all := lw_g (lw_at lw_m7 224 rfl) rfl
theorem q1770 : (Jvm.Cond.methodLink "CrumbPicturesModel" (56 : Nat) ({ cls := "CrumbPicturesModel", name := "within", desc := "(III)Z" } : Jvm.MethodName)) ∈ lw_all := lw_g (lw_at lw_m7 225 rfl) rfl
theorem q1771 : (Jvm.Cond.static ({ cls := "CrumbPicturesModel", name := "within", desc := "(III)Z" } : Jvm.MethodName)) ∈ lw_all := lw_g (lw_at lw_m7 226 rfl) rfl
theorem q1772 : (Jvm.Cond.code ({ cls := "CrumbPicturesModel", name := "within", desc := "(III)Z" } : Jvm.MethodName) prog_11_method_4_code (3 : Nat) (Option.some Jvm.ClassFile.FieldType.boolean)) ∈ lw_all := lw_g (lw_at lw_m7 227 rfl) rfl
theorem q1773 : (Jvm.Cond.methodLink "CrumbPicturesModel" (115 : Nat) ({ cls := "CrumbPicturesModel", name := "dropFrom", desc := "(I)I" } : Jvm.MethodName)) ∈ lw_all := lw_g (lw_at lw_m7 228 rfl) rfl
theorem q1774 : (Jvm.Cond.privateMethod ({ cls := "CrumbPicturesModel", name := "dropFrom", desc := "(I)I" } : Jvm.MethodName)) ∈ lw_tbl := lw_at lw_m7 229 rfl
theorem q1775 : (Jvm.Cond.instanceMethod ({ cls := "CrumbPicturesModel", name := "dropFrom", desc := "(I)I" } : Jvm.MethodName)) ∈ lw_all := lw_g (lw_at lw_m7 230 rfl) rfl
theorem q1776 : (Jvm.Cond.code ({ cls := "CrumbPicturesModel", name := "dropFrom", desc := "(I)I" } : Jvm.MethodName) prog_11_method_25_code (5 : Nat) (Option.some Jvm.ClassFile.FieldType.int)) ∈ lw_all := lw_g (lw_at lw_m7 231 rfl) rfl
theorem q1777 : (Jvm.Cond.methodLink "CrumbPicturesModel" (99 : Nat) ({ cls := "CrumbPicturesModel", name := "split", desc := "()V" } : Jvm.MethodName)) ∈ lw_all := lw_g (lw_at lw_m7 232 rfl) rfl
theorem q1778 : (Jvm.Cond.privateMethod ({ cls := "CrumbPicturesModel", name := "split", desc := "()V" } : Jvm.MethodName)) ∈ lw_tbl := lw_at lw_m7 233 rfl
theorem q1779 : (Jvm.Cond.instanceMethod ({ cls := "CrumbPicturesModel", name := "split", desc := "()V" } : Jvm.MethodName)) ∈ lw_all := lw_g (lw_at lw_m7 234 rfl) rfl
theorem q1780 : (Jvm.Cond.code ({ cls := "CrumbPicturesModel", name := "split", desc := "()V" } : Jvm.MethodName) prog_11_method_17_code (1 : Nat) (Option.none : Option Jvm.ClassFile.FieldType)) ∈ lw_all := lw_g (lw_at lw_m7 235 rfl) rfl
theorem q1781 : (Jvm.Cond.methodLink "CrumbPicturesModel" (82 : Nat) ({ cls := "CrumbPicturesModel", name := "splitBy", desc := "(I)V" } : Jvm.MethodName)) ∈ lw_all := lw_g (lw_at lw_m7 236 rfl) rfl
theorem q1782 : (Jvm.Cond.privateMethod ({ cls := "CrumbPicturesModel", name := "splitBy", desc := "(I)V" } : Jvm.MethodName)) ∈ lw_tbl := lw_at lw_m7 237 rfl
theorem q1783 : (Jvm.Cond.instanceMethod ({ cls := "CrumbPicturesModel", name := "splitBy", desc := "(I)V" } : Jvm.MethodName)) ∈ lw_all := lw_g (lw_at lw_m7 238 rfl) rfl
theorem q1784 : (Jvm.Cond.code ({ cls := "CrumbPicturesModel", name := "splitBy", desc := "(I)V" } : Jvm.MethodName) prog_11_method_16_code (5 : Nat) (Option.none : Option Jvm.ClassFile.FieldType)) ∈ lw_all := lw_g (lw_at lw_m7 239 rfl) rfl
theorem q1785 : (Jvm.Cond.methodLink "CrumbPicturesModel" (78 : Nat) ({ cls := "CrumbPicturesModel", name := "splitLine", desc := "(III)V" } : Jvm.MethodName)) ∈ lw_all := lw_g (lw_at lw_m8 0 rfl) rfl
theorem q1786 : (Jvm.Cond.privateMethod ({ cls := "CrumbPicturesModel", name := "splitLine", desc := "(III)V" } : Jvm.MethodName)) ∈ lw_tbl := lw_at lw_m8 1 rfl
theorem q1787 : (Jvm.Cond.instanceMethod ({ cls := "CrumbPicturesModel", name := "splitLine", desc := "(III)V" } : Jvm.MethodName)) ∈ lw_all := lw_g (lw_at lw_m8 2 rfl) rfl
theorem q1788 : (Jvm.Cond.code ({ cls := "CrumbPicturesModel", name := "splitLine", desc := "(III)V" } : Jvm.MethodName) prog_11_method_14_code (7 : Nat) (Option.none : Option Jvm.ClassFile.FieldType)) ∈ lw_all := lw_g (lw_at lw_m8 3 rfl) rfl
theorem q1789 : (Jvm.Cond.methodLink "CrumbPicturesModel" (102 : Nat) ({ cls := "CrumbPicturesModel", name := "isDifference", desc := "(I)Z" } : Jvm.MethodName)) ∈ lw_all := lw_g (lw_at lw_m8 4 rfl) rfl
theorem q1790 : (Jvm.Cond.privateMethod ({ cls := "CrumbPicturesModel", name := "isDifference", desc := "(I)Z" } : Jvm.MethodName)) ∈ lw_tbl := lw_at lw_m8 5 rfl
theorem q1791 : (Jvm.Cond.instanceMethod ({ cls := "CrumbPicturesModel", name := "isDifference", desc := "(I)Z" } : Jvm.MethodName)) ∈ lw_all := lw_g (lw_at lw_m8 6 rfl) rfl
theorem q1792 : (Jvm.Cond.code ({ cls := "CrumbPicturesModel", name := "isDifference", desc := "(I)Z" } : Jvm.MethodName) prog_11_method_24_code (2 : Nat) (Option.some Jvm.ClassFile.FieldType.boolean)) ∈ lw_all := lw_g (lw_at lw_m8 7 rfl) rfl
theorem q1793 : (Jvm.Cond.methodLink "CrumbPicturesModel" (93 : Nat) ({ cls := "CrumbPicturesModel", name := "band", desc := "(II)I" } : Jvm.MethodName)) ∈ lw_all := lw_g (lw_at lw_m8 8 rfl) rfl
theorem q1794 : (Jvm.Cond.static ({ cls := "CrumbPicturesModel", name := "band", desc := "(II)I" } : Jvm.MethodName)) ∈ lw_all := lw_g (lw_at lw_m8 9 rfl) rfl
theorem q1795 : (Jvm.Cond.code ({ cls := "CrumbPicturesModel", name := "band", desc := "(II)I" } : Jvm.MethodName) prog_11_method_20_code (5 : Nat) (Option.some Jvm.ClassFile.FieldType.int)) ∈ lw_all := lw_g (lw_at lw_m8 10 rfl) rfl
theorem q1796 : (Jvm.Cond.methodLink "CrumbPicturesModel" (89 : Nat) ({ cls := "CrumbPicturesModel", name := "levelOf", desc := "(II)I" } : Jvm.MethodName)) ∈ lw_all := lw_g (lw_at lw_m8 11 rfl) rfl
theorem q1797 : (Jvm.Cond.static ({ cls := "CrumbPicturesModel", name := "levelOf", desc := "(II)I" } : Jvm.MethodName)) ∈ lw_all := lw_g (lw_at lw_m8 12 rfl) rfl
theorem q1798 : (Jvm.Cond.code ({ cls := "CrumbPicturesModel", name := "levelOf", desc := "(II)I" } : Jvm.MethodName) prog_11_method_19_code (4 : Nat) (Option.some Jvm.ClassFile.FieldType.int)) ∈ lw_all := lw_g (lw_at lw_m8 13 rfl) rfl
theorem q1799 : (Jvm.Cond.methodLink "CrumbPicturesModel" (106 : Nat) ({ cls := "CrumbPicturesModel", name := "size", desc := "(I)I" } : Jvm.MethodName)) ∈ lw_all := lw_g (lw_at lw_m8 14 rfl) rfl
theorem q1800 : (Jvm.Cond.static ({ cls := "CrumbPicturesModel", name := "size", desc := "(I)I" } : Jvm.MethodName)) ∈ lw_all := lw_g (lw_at lw_m8 15 rfl) rfl
theorem q1801 : (Jvm.Cond.code ({ cls := "CrumbPicturesModel", name := "size", desc := "(I)I" } : Jvm.MethodName) prog_11_method_7_code (1 : Nat) (Option.some Jvm.ClassFile.FieldType.int)) ∈ lw_all := lw_g (lw_at lw_m8 16 rfl) rfl
theorem q1803 : (Jvm.Cond.instanceMethod ({ cls := "CrumbPicturesModel", name := "cost", desc := "(I)I" } : Jvm.MethodName)) ∈ lw_all := lw_g (lw_at lw_m8 18 rfl) rfl
theorem q1804 : (Jvm.Cond.selects "CrumbPicturesModel" ({ cls := "CrumbPicturesModel", name := "cost", desc := "(I)I" } : Jvm.MethodName) ({ cls := "CrumbPicturesModel", name := "cost", desc := "(I)I" } : Jvm.MethodName)) ∈ lw_all := lw_g (lw_at lw_m8 19 rfl) rfl
theorem q1805 : (Jvm.Cond.code ({ cls := "CrumbPicturesModel", name := "cost", desc := "(I)I" } : Jvm.MethodName) prog_11_method_34_code (2 : Nat) (Option.some Jvm.ClassFile.FieldType.int)) ∈ lw_all := lw_g (lw_at lw_m8 20 rfl) rfl
theorem q1806 : (Jvm.Cond.methodLink "CrumbPicturesModel" (124 : Nat) ({ cls := "CrumbPicturesModel", name := "costBy", desc := "(I)I" } : Jvm.MethodName)) ∈ lw_all := lw_g (lw_at lw_m8 21 rfl) rfl
theorem q1807 : (Jvm.Cond.privateMethod ({ cls := "CrumbPicturesModel", name := "costBy", desc := "(I)I" } : Jvm.MethodName)) ∈ lw_tbl := lw_at lw_m8 22 rfl
theorem q1808 : (Jvm.Cond.instanceMethod ({ cls := "CrumbPicturesModel", name := "costBy", desc := "(I)I" } : Jvm.MethodName)) ∈ lw_all := lw_g (lw_at lw_m8 23 rfl) rfl
theorem q1809 : (Jvm.Cond.code ({ cls := "CrumbPicturesModel", name := "costBy", desc := "(I)I" } : Jvm.MethodName) prog_11_method_29_code (3 : Nat) (Option.some Jvm.ClassFile.FieldType.int)) ∈ lw_all := lw_g (lw_at lw_m8 24 rfl) rfl
theorem q1810 : (Jvm.Cond.methodLink "CrumbPicturesModel" (118 : Nat) ({ cls := "CrumbPicturesModel", name := "joinClamped", desc := "()V" } : Jvm.MethodName)) ∈ lw_all := lw_g (lw_at lw_m8 25 rfl) rfl
theorem q1811 : (Jvm.Cond.privateMethod ({ cls := "CrumbPicturesModel", name := "joinClamped", desc := "()V" } : Jvm.MethodName)) ∈ lw_tbl := lw_at lw_m8 26 rfl
theorem q1812 : (Jvm.Cond.instanceMethod ({ cls := "CrumbPicturesModel", name := "joinClamped", desc := "()V" } : Jvm.MethodName)) ∈ lw_all := lw_g (lw_at lw_m8 27 rfl) rfl
theorem q1813 : (Jvm.Cond.code ({ cls := "CrumbPicturesModel", name := "joinClamped", desc := "()V" } : Jvm.MethodName) prog_11_method_27_code (2 : Nat) (Option.none : Option Jvm.ClassFile.FieldType)) ∈ lw_all := lw_g (lw_at lw_m8 28 rfl) rfl
theorem q1814 : (Jvm.Cond.methodLink "CrumbPicturesModel" (109 : Nat) ({ cls := "CrumbPicturesModel", name := "joinBack", desc := "()V" } : Jvm.MethodName)) ∈ lw_all := lw_g (lw_at lw_m8 29 rfl) rfl
theorem q1815 : (Jvm.Cond.privateMethod ({ cls := "CrumbPicturesModel", name := "joinBack", desc := "()V" } : Jvm.MethodName)) ∈ lw_tbl := lw_at lw_m8 30 rfl
theorem q1816 : (Jvm.Cond.instanceMethod ({ cls := "CrumbPicturesModel", name := "joinBack", desc := "()V" } : Jvm.MethodName)) ∈ lw_all := lw_g (lw_at lw_m8 31 rfl) rfl
theorem q1817 : (Jvm.Cond.code ({ cls := "CrumbPicturesModel", name := "joinBack", desc := "()V" } : Jvm.MethodName) prog_11_method_18_code (4 : Nat) (Option.none : Option Jvm.ClassFile.FieldType)) ∈ lw_all := lw_g (lw_at lw_m8 32 rfl) rfl
theorem q1818 : (Jvm.Cond.methodLink "CrumbPicturesModel" (86 : Nat) ({ cls := "CrumbPicturesModel", name := "joinLine", desc := "(III)V" } : Jvm.MethodName)) ∈ lw_all := lw_g (lw_at lw_m8 33 rfl) rfl
theorem q1819 : (Jvm.Cond.privateMethod ({ cls := "CrumbPicturesModel", name := "joinLine", desc := "(III)V" } : Jvm.MethodName)) ∈ lw_tbl := lw_at lw_m8 34 rfl
theorem q1820 : (Jvm.Cond.instanceMethod ({ cls := "CrumbPicturesModel", name := "joinLine", desc := "(III)V" } : Jvm.MethodName)) ∈ lw_all := lw_g (lw_at lw_m8 35 rfl) rfl
theorem q1821 : (Jvm.Cond.code ({ cls := "CrumbPicturesModel", name := "joinLine", desc := "(III)V" } : Jvm.MethodName) prog_11_method_15_code (7 : Nat) (Option.none : Option Jvm.ClassFile.FieldType)) ∈ lw_all := lw_g (lw_at lw_m8 36 rfl) rfl
theorem q1822 : (Jvm.Cond.methodLink "CrumbPicturesModel" (112 : Nat) ({ cls := "CrumbPicturesModel", name := "clamped", desc := "(I)I" } : Jvm.MethodName)) ∈ lw_all := lw_g (lw_at lw_m8 37 rfl) rfl
theorem q1823 : (Jvm.Cond.static ({ cls := "CrumbPicturesModel", name := "clamped", desc := "(I)I" } : Jvm.MethodName)) ∈ lw_all := lw_g (lw_at lw_m8 38 rfl) rfl
theorem q1824 : (Jvm.Cond.code ({ cls := "CrumbPicturesModel", name := "clamped", desc := "(I)I" } : Jvm.MethodName) prog_11_method_26_code (1 : Nat) (Option.some Jvm.ClassFile.FieldType.int)) ∈ lw_all := lw_g (lw_at lw_m8 39 rfl) rfl
theorem q1825 : (Jvm.Cond.methodLink "CrumbPicturesModel" (121 : Nat) ({ cls := "CrumbPicturesModel", name := "costOfBack", desc := "()I" } : Jvm.MethodName)) ∈ lw_all := lw_g (lw_at lw_m8 40 rfl) rfl
theorem q1826 : (Jvm.Cond.privateMethod ({ cls := "CrumbPicturesModel", name := "costOfBack", desc := "()I" } : Jvm.MethodName)) ∈ lw_tbl := lw_at lw_m8 41 rfl
theorem q1827 : (Jvm.Cond.instanceMethod ({ cls := "CrumbPicturesModel", name := "costOfBack", desc := "()I" } : Jvm.MethodName)) ∈ lw_all := lw_g (lw_at lw_m8 42 rfl) rfl
theorem q1828 : (Jvm.Cond.code ({ cls := "CrumbPicturesModel", name := "costOfBack", desc := "()I" } : Jvm.MethodName) prog_11_method_28_code (3 : Nat) (Option.some Jvm.ClassFile.FieldType.int)) ∈ lw_all := lw_g (lw_at lw_m8 43 rfl) rfl
theorem q1830 : (Jvm.Cond.instanceMethod ({ cls := "CrumbPicturesModel", name := "worst", desc := "(I)I" } : Jvm.MethodName)) ∈ lw_all := lw_g (lw_at lw_m8 45 rfl) rfl
theorem q1831 : (Jvm.Cond.selects "CrumbPicturesModel" ({ cls := "CrumbPicturesModel", name := "worst", desc := "(I)I" } : Jvm.MethodName) ({ cls := "CrumbPicturesModel", name := "worst", desc := "(I)I" } : Jvm.MethodName)) ∈ lw_all := lw_g (lw_at lw_m8 46 rfl) rfl
theorem q1832 : (Jvm.Cond.code ({ cls := "CrumbPicturesModel", name := "worst", desc := "(I)I" } : Jvm.MethodName) prog_11_method_35_code (2 : Nat) (Option.some Jvm.ClassFile.FieldType.int)) ∈ lw_all := lw_g (lw_at lw_m8 47 rfl) rfl
theorem q1833 : (Jvm.Cond.methodLink "CrumbPicturesModel" (130 : Nat) ({ cls := "CrumbPicturesModel", name := "worstBy", desc := "(I)I" } : Jvm.MethodName)) ∈ lw_all := lw_g (lw_at lw_m8 48 rfl) rfl
theorem q1834 : (Jvm.Cond.privateMethod ({ cls := "CrumbPicturesModel", name := "worstBy", desc := "(I)I" } : Jvm.MethodName)) ∈ lw_tbl := lw_at lw_m8 49 rfl
theorem q1835 : (Jvm.Cond.instanceMethod ({ cls := "CrumbPicturesModel", name := "worstBy", desc := "(I)I" } : Jvm.MethodName)) ∈ lw_all := lw_g (lw_at lw_m8 50 rfl) rfl
theorem q1836 : (Jvm.Cond.code ({ cls := "CrumbPicturesModel", name := "worstBy", desc := "(I)I" } : Jvm.MethodName) prog_11_method_30_code (6 : Nat) (Option.some Jvm.ClassFile.FieldType.int)) ∈ lw_all := lw_g (lw_at lw_m8 51 rfl) rfl
theorem q1838 : (Jvm.Cond.instanceMethod ({ cls := "CrumbPicturesModel", name := "thresholdFor", desc := "(I)I" } : Jvm.MethodName)) ∈ lw_all := lw_g (lw_at lw_m8 53 rfl) rfl
theorem q1839 : (Jvm.Cond.selects "CrumbPicturesModel" ({ cls := "CrumbPicturesModel", name := "thresholdFor", desc := "(I)I" } : Jvm.MethodName) ({ cls := "CrumbPicturesModel", name := "thresholdFor", desc := "(I)I" } : Jvm.MethodName)) ∈ lw_all := lw_g (lw_at lw_m8 54 rfl) rfl
theorem q1840 : (Jvm.Cond.code ({ cls := "CrumbPicturesModel", name := "thresholdFor", desc := "(I)I" } : Jvm.MethodName) prog_11_method_36_code (2 : Nat) (Option.some Jvm.ClassFile.FieldType.int)) ∈ lw_all := lw_g (lw_at lw_m8 55 rfl) rfl
theorem q1841 : (Jvm.Cond.methodLink "CrumbPicturesModel" (133 : Nat) ({ cls := "CrumbPicturesModel", name := "greatestFor", desc := "(I)I" } : Jvm.MethodName)) ∈ lw_all := lw_g (lw_at lw_m8 56 rfl) rfl
theorem q1842 : (Jvm.Cond.privateMethod ({ cls := "CrumbPicturesModel", name := "greatestFor", desc := "(I)I" } : Jvm.MethodName)) ∈ lw_tbl := lw_at lw_m8 57 rfl
theorem q1843 : (Jvm.Cond.instanceMethod ({ cls := "CrumbPicturesModel", name := "greatestFor", desc := "(I)I" } : Jvm.MethodName)) ∈ lw_all := lw_g (lw_at lw_m8 58 rfl) rfl
theorem q1844 : (Jvm.Cond.code ({ cls := "CrumbPicturesModel", name := "greatestFor", desc := "(I)I" } : Jvm.MethodName) prog_11_method_31_code (4 : Nat) (Option.some Jvm.ClassFile.FieldType.int)) ∈ lw_all := lw_g (lw_at lw_m8 59 rfl) rfl
theorem q1846 : (Jvm.Cond.instanceMethod ({ cls := "CrumbPicturesModel", name := "costOfPlanes", desc := "(I)I" } : Jvm.MethodName)) ∈ lw_all := lw_g (lw_at lw_m8 61 rfl) rfl
theorem q1847 : (Jvm.Cond.selects "CrumbPicturesModel" ({ cls := "CrumbPicturesModel", name := "costOfPlanes", desc := "(I)I" } : Jvm.MethodName) ({ cls := "CrumbPicturesModel", name := "costOfPlanes", desc := "(I)I" } : Jvm.MethodName)) ∈ lw_all := lw_g (lw_at lw_m8 62 rfl) rfl
theorem q1848 : (Jvm.Cond.code ({ cls := "CrumbPicturesModel", name := "costOfPlanes", desc := "(I)I" } : Jvm.MethodName) prog_11_method_37_code (2 : Nat) (Option.some Jvm.ClassFile.FieldType.int)) ∈ lw_all := lw_g (lw_at lw_m8 63 rfl) rfl
theorem q1849 : (Jvm.Cond.methodLink "CrumbPicturesModel" (136 : Nat) ({ cls := "CrumbPicturesModel", name := "costBehind", desc := "(I)I" } : Jvm.MethodName)) ∈ lw_all := lw_g (lw_at lw_m8 64 rfl) rfl
theorem q1850 : (Jvm.Cond.privateMethod ({ cls := "CrumbPicturesModel", name := "costBehind", desc := "(I)I" } : Jvm.MethodName)) ∈ lw_tbl := lw_at lw_m8 65 rfl
theorem q1851 : (Jvm.Cond.instanceMethod ({ cls := "CrumbPicturesModel", name := "costBehind", desc := "(I)I" } : Jvm.MethodName)) ∈ lw_all := lw_g (lw_at lw_m8 66 rfl) rfl
theorem q1852 : (Jvm.Cond.code ({ cls := "CrumbPicturesModel", name := "costBehind", desc := "(I)I" } : Jvm.MethodName) prog_11_method_32_code (3 : Nat) (Option.some Jvm.ClassFile.FieldType.int)) ∈ lw_all := lw_g (lw_at lw_m8 67 rfl) rfl
theorem q1854 : (Jvm.Cond.instanceMethod ({ cls := "CrumbPicturesModel", name := "trees", desc := "(I)I" } : Jvm.MethodName)) ∈ lw_all := lw_g (lw_at lw_m8 69 rfl) rfl
theorem q1855 : (Jvm.Cond.selects "CrumbPicturesModel" ({ cls := "CrumbPicturesModel", name := "trees", desc := "(I)I" } : Jvm.MethodName) ({ cls := "CrumbPicturesModel", name := "trees", desc := "(I)I" } : Jvm.MethodName)) ∈ lw_all := lw_g (lw_at lw_m8 70 rfl) rfl
theorem q1856 : (Jvm.Cond.code ({ cls := "CrumbPicturesModel", name := "trees", desc := "(I)I" } : Jvm.MethodName) prog_11_method_40_code (2 : Nat) (Option.some Jvm.ClassFile.FieldType.int)) ∈ lw_all := lw_g (lw_at lw_m8 71 rfl) rfl
theorem q1857 : (Jvm.Cond.methodLink "CrumbPicturesModel" (143 : Nat) ({ cls := "CrumbPicturesModel", name := "treesBy", desc := "(I)I" } : Jvm.MethodName)) ∈ lw_all := lw_g (lw_at lw_m8 72 rfl) rfl
theorem q1858 : (Jvm.Cond.privateMethod ({ cls := "CrumbPicturesModel", name := "treesBy", desc := "(I)I" } : Jvm.MethodName)) ∈ lw_tbl := lw_at lw_m8 73 rfl
theorem q1859 : (Jvm.Cond.instanceMethod ({ cls := "CrumbPicturesModel", name := "treesBy", desc := "(I)I" } : Jvm.MethodName)) ∈ lw_all := lw_g (lw_at lw_m8 74 rfl) rfl
theorem q1860 : (Jvm.Cond.code ({ cls := "CrumbPicturesModel", name := "treesBy", desc := "(I)I" } : Jvm.MethodName) prog_11_method_39_code (6 : Nat) (Option.some Jvm.ClassFile.FieldType.int)) ∈ lw_all := lw_g (lw_at lw_m8 75 rfl) rfl
theorem q1861 : (Jvm.Cond.methodLink "CrumbPicturesModel" (139 : Nat) ({ cls := "CrumbPicturesModel", name := "isSmall", desc := "(II)Z" } : Jvm.MethodName)) ∈ lw_all := lw_g (lw_at lw_m8 76 rfl) rfl
theorem q1862 : (Jvm.Cond.privateMethod ({ cls := "CrumbPicturesModel", name := "isSmall", desc := "(II)Z" } : Jvm.MethodName)) ∈ lw_tbl := lw_at lw_m8 77 rfl
theorem q1863 : (Jvm.Cond.instanceMethod ({ cls := "CrumbPicturesModel", name := "isSmall", desc := "(II)Z" } : Jvm.MethodName)) ∈ lw_all := lw_g (lw_at lw_m8 78 rfl) rfl
theorem q1864 : (Jvm.Cond.code ({ cls := "CrumbPicturesModel", name := "isSmall", desc := "(II)Z" } : Jvm.MethodName) prog_11_method_38_code (9 : Nat) (Option.some Jvm.ClassFile.FieldType.boolean)) ∈ lw_all := lw_g (lw_at lw_m8 79 rfl) rfl
theorem q1866 : (Jvm.Cond.instanceMethod ({ cls := "CrumbPicturesModel", name := "treesFromBelow", desc := "(I)I" } : Jvm.MethodName)) ∈ lw_all := lw_g (lw_at lw_m8 81 rfl) rfl
theorem q1867 : (Jvm.Cond.selects "CrumbPicturesModel" ({ cls := "CrumbPicturesModel", name := "treesFromBelow", desc := "(I)I" } : Jvm.MethodName) ({ cls := "CrumbPicturesModel", name := "treesFromBelow", desc := "(I)I" } : Jvm.MethodName)) ∈ lw_all := lw_g (lw_at lw_m8 82 rfl) rfl
theorem q1868 : (Jvm.Cond.code ({ cls := "CrumbPicturesModel", name := "treesFromBelow", desc := "(I)I" } : Jvm.MethodName) prog_11_method_41_code (2 : Nat) (Option.some Jvm.ClassFile.FieldType.int)) ∈ lw_all := lw_g (lw_at lw_m8 83 rfl) rfl
theorem q1870 : (Jvm.Cond.instanceMethod ({ cls := "CrumbPicturesModel", name := "isTree", desc := "(III)Z" } : Jvm.MethodName)) ∈ lw_all := lw_g (lw_at lw_m8 85 rfl) rfl
theorem q1871 : (Jvm.Cond.selects "CrumbPicturesModel" ({ cls := "CrumbPicturesModel", name := "isTree", desc := "(III)Z" } : Jvm.MethodName) ({ cls := "CrumbPicturesModel", name := "isTree", desc := "(III)Z" } : Jvm.MethodName)) ∈ lw_all := lw_g (lw_at lw_m8 86 rfl) rfl
theorem q1872 : (Jvm.Cond.code ({ cls := "CrumbPicturesModel", name := "isTree", desc := "(III)Z" } : Jvm.MethodName) prog_11_method_42_code (4 : Nat) (Option.some Jvm.ClassFile.FieldType.boolean)) ∈ lw_all := lw_g (lw_at lw_m8 87 rfl) rfl
theorem q1873 : (Jvm.Cond.methodLink "CrumbPicturesModel" (146 : Nat) ({ cls := "CrumbPicturesModel", name := "isCell", desc := "(II)Z" } : Jvm.MethodName)) ∈ lw_all := lw_g (lw_at lw_m8 88 rfl) rfl
theorem q1874 : (Jvm.Cond.static ({ cls := "CrumbPicturesModel", name := "isCell", desc := "(II)Z" } : Jvm.MethodName)) ∈ lw_all := lw_g (lw_at lw_m8 89 rfl) rfl
theorem q1875 : (Jvm.Cond.code ({ cls := "CrumbPicturesModel", name := "isCell", desc := "(II)Z" } : Jvm.MethodName) prog_11_method_5_code (2 : Nat) (Option.some Jvm.ClassFile.FieldType.boolean)) ∈ lw_all := lw_g (lw_at lw_m8 90 rfl) rfl
theorem q1877 : (Jvm.Cond.instanceMethod ({ cls := "CrumbPicturesModel", name := "codeLength", desc := "()I" } : Jvm.MethodName)) ∈ lw_all := lw_g (lw_at lw_m8 92 rfl) rfl
theorem q1878 : (Jvm.Cond.selects "CrumbPicturesModel" ({ cls := "CrumbPicturesModel", name := "codeLength", desc := "()I" } : Jvm.MethodName) ({ cls := "CrumbPicturesModel", name := "codeLength", desc := "()I" } : Jvm.MethodName)) ∈ lw_all := lw_g (lw_at lw_m8 93 rfl) rfl
theorem q1879 : (Jvm.Cond.code ({ cls := "CrumbPicturesModel", name := "codeLength", desc := "()I" } : Jvm.MethodName) prog_11_method_49_code (1 : Nat) (Option.some Jvm.ClassFile.FieldType.int)) ∈ lw_all := lw_g (lw_at lw_m8 94 rfl) rfl
theorem q1880 : (Jvm.Cond.methodLink "CrumbPicturesModel" (161 : Nat) ({ cls := "CrumbPicturesModel", name := "layCode", desc := "()V" } : Jvm.MethodName)) ∈ lw_all := lw_g (lw_at lw_m8 95 rfl) rfl
theorem q1881 : (Jvm.Cond.privateMethod ({ cls := "CrumbPicturesModel", name := "layCode", desc := "()V" } : Jvm.MethodName)) ∈ lw_tbl := lw_at lw_m8 96 rfl
theorem q1882 : (Jvm.Cond.instanceMethod ({ cls := "CrumbPicturesModel", name := "layCode", desc := "()V" } : Jvm.MethodName)) ∈ lw_all := lw_g (lw_at lw_m8 97 rfl) rfl
theorem q1883 : (Jvm.Cond.code ({ cls := "CrumbPicturesModel", name := "layCode", desc := "()V" } : Jvm.MethodName) prog_11_method_48_code (1 : Nat) (Option.none : Option Jvm.ClassFile.FieldType)) ∈ lw_all := lw_g (lw_at lw_m8 98 rfl) rfl
theorem q1884 : (Jvm.Cond.methodLink "CrumbPicturesModel" (158 : Nat) ({ cls := "CrumbPicturesModel", name := "layOrder", desc := "(I)V" } : Jvm.MethodName)) ∈ lw_all := lw_g (lw_at lw_m8 99 rfl) rfl
theorem q1885 : (Jvm.Cond.privateMethod ({ cls := "CrumbPicturesModel", name := "layOrder", desc := "(I)V" } : Jvm.MethodName)) ∈ lw_tbl := lw_at lw_m8 100 rfl
theorem q1886 : (Jvm.Cond.instanceMethod ({ cls := "CrumbPicturesModel", name := "layOrder", desc := "(I)V" } : Jvm.MethodName)) ∈ lw_all := lw_g (lw_at lw_m8 101 rfl) rfl
theorem q1887 : (Jvm.Cond.code ({ cls := "CrumbPicturesModel", name := "layOrder", desc := "(I)V" } : Jvm.MethodName) prog_11_method_23_code (5 : Nat) (Option.none : Option Jvm.ClassFile.FieldType)) ∈ lw_all := lw_g (lw_at lw_m8 102 rfl) rfl
theorem q1888 : (Jvm.Cond.methodLink "CrumbPicturesModel" (96 : Nat) ({ cls := "CrumbPicturesModel", name := "rankBy", desc := "(II)I" } : Jvm.MethodName)) ∈ lw_all := lw_g (lw_at lw_m8 103 rfl) rfl
theorem q1889 : (Jvm.Cond.static ({ cls := "CrumbPicturesModel", name := "rankBy", desc := "(II)I" } : Jvm.MethodName)) ∈ lw_all := lw_g (lw_at lw_m8 104 rfl) rfl
theorem q1890 : (Jvm.Cond.code ({ cls := "CrumbPicturesModel", name := "rankBy", desc := "(II)I" } : Jvm.MethodName) prog_11_method_21_code (4 : Nat) (Option.some Jvm.ClassFile.FieldType.int)) ∈ lw_all := lw_g (lw_at lw_m8 105 rfl) rfl
theorem q1891 : (Jvm.Cond.methodLink "CrumbPicturesModel" (164 : Nat) ({ cls := "CrumbPicturesModel", name := "lengthOfCode", desc := "()I" } : Jvm.MethodName)) ∈ lw_all := lw_g (lw_at lw_m8 106 rfl) rfl
theorem q1892 : (Jvm.Cond.privateMethod ({ cls := "CrumbPicturesModel", name := "lengthOfCode", desc := "()I" } : Jvm.MethodName)) ∈ lw_tbl := lw_at lw_m8 107 rfl
theorem q1893 : (Jvm.Cond.instanceMethod ({ cls := "CrumbPicturesModel", name := "lengthOfCode", desc := "()I" } : Jvm.MethodName)) ∈ lw_all := lw_g (lw_at lw_m8 108 rfl) rfl
theorem q1894 : (Jvm.Cond.code ({ cls := "CrumbPicturesModel", name := "lengthOfCode", desc := "()I" } : Jvm.MethodName) prog_11_method_45_code (5 : Nat) (Option.some Jvm.ClassFile.FieldType.int)) ∈ lw_all := lw_g (lw_at lw_m8 109 rfl) rfl
theorem q1895 : (Jvm.Cond.methodLink "CrumbPicturesModel" (149 : Nat) ({ cls := "CrumbPicturesModel", name := "zerosFrom", desc := "(I)I" } : Jvm.MethodName)) ∈ lw_all := lw_g (lw_at lw_m8 110 rfl) rfl
theorem q1896 : (Jvm.Cond.privateMethod ({ cls := "CrumbPicturesModel", name := "zerosFrom", desc := "(I)I" } : Jvm.MethodName)) ∈ lw_tbl := lw_at lw_m8 111 rfl
theorem q1897 : (Jvm.Cond.instanceMethod ({ cls := "CrumbPicturesModel", name := "zerosFrom", desc := "(I)I" } : Jvm.MethodName)) ∈ lw_all := lw_g (lw_at lw_m8 112 rfl) rfl
theorem q1898 : (Jvm.Cond.code ({ cls := "CrumbPicturesModel", name := "zerosFrom", desc := "(I)I" } : Jvm.MethodName) prog_11_method_44_code (3 : Nat) (Option.some Jvm.ClassFile.FieldType.int)) ∈ lw_all := lw_g (lw_at lw_m8 113 rfl) rfl
theorem q1899 : (Jvm.Cond.methodLink "CrumbPicturesModel" (152 : Nat) ({ cls := "CrumbPicturesModel", name := "bitsBehind", desc := "(I)I" } : Jvm.MethodName)) ∈ lw_all := lw_g (lw_at lw_m8 114 rfl) rfl
theorem q1900 : (Jvm.Cond.static ({ cls := "CrumbPicturesModel", name := "bitsBehind", desc := "(I)I" } : Jvm.MethodName)) ∈ lw_all := lw_g (lw_at lw_m8 115 rfl) rfl
theorem q1901 : (Jvm.Cond.code ({ cls := "CrumbPicturesModel", name := "bitsBehind", desc := "(I)I" } : Jvm.MethodName) prog_11_method_43_code (2 : Nat) (Option.some Jvm.ClassFile.FieldType.int)) ∈ lw_all := lw_g (lw_at lw_m8 116 rfl) rfl
theorem q1903 : (Jvm.Cond.instanceMethod ({ cls := "CrumbPicturesModel", name := "codeBit", desc := "(I)I" } : Jvm.MethodName)) ∈ lw_all := lw_g (lw_at lw_m8 118 rfl) rfl
theorem q1904 : (Jvm.Cond.selects "CrumbPicturesModel" ({ cls := "CrumbPicturesModel", name := "codeBit", desc := "(I)I" } : Jvm.MethodName) ({ cls := "CrumbPicturesModel", name := "codeBit", desc := "(I)I" } : Jvm.MethodName)) ∈ lw_all := lw_g (lw_at lw_m8 119 rfl) rfl
theorem q1905 : (Jvm.Cond.code ({ cls := "CrumbPicturesModel", name := "codeBit", desc := "(I)I" } : Jvm.MethodName) prog_11_method_50_code (3 : Nat) (Option.some Jvm.ClassFile.FieldType.int)) ∈ lw_all := lw_g (lw_at lw_m8 120 rfl) rfl
theorem q1906 : (Jvm.Cond.methodLink "CrumbPicturesModel" (167 : Nat) ({ cls := "CrumbPicturesModel", name := "bitAt", desc := "(I)I" } : Jvm.MethodName)) ∈ lw_all := lw_g (lw_at lw_m8 121 rfl) rfl
theorem q1907 : (Jvm.Cond.privateMethod ({ cls := "CrumbPicturesModel", name := "bitAt", desc := "(I)I" } : Jvm.MethodName)) ∈ lw_tbl := lw_at lw_m8 122 rfl
theorem q1908 : (Jvm.Cond.instanceMethod ({ cls := "CrumbPicturesModel", name := "bitAt", desc := "(I)I" } : Jvm.MethodName)) ∈ lw_all := lw_g (lw_at lw_m8 123 rfl) rfl
theorem q1909 : (Jvm.Cond.code ({ cls := "CrumbPicturesModel", name := "bitAt", desc := "(I)I" } : Jvm.MethodName) prog_11_method_47_code (10 : Nat) (Option.some Jvm.ClassFile.FieldType.int)) ∈ lw_all := lw_g (lw_at lw_m8 124 rfl) rfl
theorem q1910 : (Jvm.Cond.methodLink "CrumbPicturesModel" (155 : Nat) ({ cls := "CrumbPicturesModel", name := "bitOf", desc := "(II)I" } : Jvm.MethodName)) ∈ lw_all := lw_g (lw_at lw_m8 125 rfl) rfl
theorem q1911 : (Jvm.Cond.static ({ cls := "CrumbPicturesModel", name := "bitOf", desc := "(II)I" } : Jvm.MethodName)) ∈ lw_all := lw_g (lw_at lw_m8 126 rfl) rfl
theorem q1912 : (Jvm.Cond.code ({ cls := "CrumbPicturesModel", name := "bitOf", desc := "(II)I" } : Jvm.MethodName) prog_11_method_46_code (3 : Nat) (Option.some Jvm.ClassFile.FieldType.int)) ∈ lw_all := lw_g (lw_at lw_m8 127 rfl) rfl
theorem q1914 : (Jvm.Cond.instanceMethod ({ cls := "CrumbPicturesModel", name := "partByCode", desc := "(I)I" } : Jvm.MethodName)) ∈ lw_all := lw_g (lw_at lw_m8 129 rfl) rfl
theorem q1915 : (Jvm.Cond.selects "CrumbPicturesModel" ({ cls := "CrumbPicturesModel", name := "partByCode", desc := "(I)I" } : Jvm.MethodName) ({ cls := "CrumbPicturesModel", name := "partByCode", desc := "(I)I" } : Jvm.MethodName)) ∈ lw_all := lw_g (lw_at lw_m8 130 rfl) rfl
theorem q1916 : (Jvm.Cond.code ({ cls := "CrumbPicturesModel", name := "partByCode", desc := "(I)I" } : Jvm.MethodName) prog_11_method_51_code (2 : Nat) (Option.some Jvm.ClassFile.FieldType.int)) ∈ lw_all := lw_g (lw_at lw_m8 131 rfl) rfl
theorem q1918 : (Jvm.Cond.instanceMethod ({ cls := "CrumbPicturesModel", name := "zeroRuns", desc := "()I" } : Jvm.MethodName)) ∈ lw_all := lw_g (lw_at lw_m8 133 rfl) rfl
theorem q1919 : (Jvm.Cond.selects "CrumbPicturesModel" ({ cls := "CrumbPicturesModel", name := "zeroRuns", desc := "()I" } : Jvm.MethodName) ({ cls := "CrumbPicturesModel", name := "zeroRuns", desc := "()I" } : Jvm.MethodName)) ∈ lw_all := lw_g (lw_at lw_m8 134 rfl) rfl
theorem q1920 : (Jvm.Cond.code ({ cls := "CrumbPicturesModel", name := "zeroRuns", desc := "()I" } : Jvm.MethodName) prog_11_method_53_code (1 : Nat) (Option.some Jvm.ClassFile.FieldType.int)) ∈ lw_all := lw_g (lw_at lw_m8 135 rfl) rfl
theorem q1921 : (Jvm.Cond.methodLink "CrumbPicturesModel" (170 : Nat) ({ cls := "CrumbPicturesModel", name := "runs", desc := "()I" } : Jvm.MethodName)) ∈ lw_all := lw_g (lw_at lw_m8 136 rfl) rfl
theorem q1922 : (Jvm.Cond.privateMethod ({ cls := "CrumbPicturesModel", name := "runs", desc := "()I" } : Jvm.MethodName)) ∈ lw_tbl := lw_at lw_m8 137 rfl
theorem q1923 : (Jvm.Cond.instanceMethod ({ cls := "CrumbPicturesModel", name := "runs", desc := "()I" } : Jvm.MethodName)) ∈ lw_all := lw_g (lw_at lw_m8 138 rfl) rfl
theorem q1924 : (Jvm.Cond.code ({ cls := "CrumbPicturesModel", name := "runs", desc := "()I" } : Jvm.MethodName) prog_11_method_52_code (3 : Nat) (Option.some Jvm.ClassFile.FieldType.int)) ∈ lw_all := lw_g (lw_at lw_m8 139 rfl) rfl
theorem q1926 : (Jvm.Cond.instanceMethod ({ cls := "CrumbPicturesModel", name := "codeLengthWith", desc := "(I)I" } : Jvm.MethodName)) ∈ lw_all := lw_g (lw_at lw_m8 141 rfl) rfl
theorem q1927 : (Jvm.Cond.selects "CrumbPicturesModel" ({ cls := "CrumbPicturesModel", name := "codeLengthWith", desc := "(I)I" } : Jvm.MethodName) ({ cls := "CrumbPicturesModel", name := "codeLengthWith", desc := "(I)I" } : Jvm.MethodName)) ∈ lw_all := lw_g (lw_at lw_m8 142 rfl) rfl
theorem q1928 : (Jvm.Cond.code ({ cls := "CrumbPicturesModel", name := "codeLengthWith", desc := "(I)I" } : Jvm.MethodName) prog_11_method_56_code (2 : Nat) (Option.some Jvm.ClassFile.FieldType.int)) ∈ lw_all := lw_g (lw_at lw_m8 143 rfl) rfl
theorem q1929 : (Jvm.Cond.methodLink "CrumbPicturesModel" (173 : Nat) ({ cls := "CrumbPicturesModel", name := "lengthWith", desc := "(I)I" } : Jvm.MethodName)) ∈ lw_all := lw_g (lw_at lw_m8 144 rfl) rfl
theorem q1930 : (Jvm.Cond.privateMethod ({ cls := "CrumbPicturesModel", name := "lengthWith", desc := "(I)I" } : Jvm.MethodName)) ∈ lw_tbl := lw_at lw_m8 145 rfl
theorem q1931 : (Jvm.Cond.instanceMethod ({ cls := "CrumbPicturesModel", name := "lengthWith", desc := "(I)I" } : Jvm.MethodName)) ∈ lw_all := lw_g (lw_at lw_m8 146 rfl) rfl
theorem q1932 : (Jvm.Cond.code ({ cls := "CrumbPicturesModel", name := "lengthWith", desc := "(I)I" } : Jvm.MethodName) prog_11_method_54_code (2 : Nat) (Option.some Jvm.ClassFile.FieldType.int)) ∈ lw_all := lw_g (lw_at lw_m8 147 rfl) rfl
theorem q1934 : (Jvm.Cond.instanceMethod ({ cls := "CrumbPicturesModel", name := "codeLengthWithout", desc := "(I)I" } : Jvm.MethodName)) ∈ lw_all := lw_g (lw_at lw_m8 149 rfl) rfl
theorem q1935 : (Jvm.Cond.selects "CrumbPicturesModel" ({ cls := "CrumbPicturesModel", name := "codeLengthWithout", desc := "(I)I" } : Jvm.MethodName) ({ cls := "CrumbPicturesModel", name := "codeLengthWithout", desc := "(I)I" } : Jvm.MethodName)) ∈ lw_all := lw_g (lw_at lw_m8 150 rfl) rfl
theorem q1936 : (Jvm.Cond.code ({ cls := "CrumbPicturesModel", name := "codeLengthWithout", desc := "(I)I" } : Jvm.MethodName) prog_11_method_57_code (2 : Nat) (Option.some Jvm.ClassFile.FieldType.int)) ∈ lw_all := lw_g (lw_at lw_m8 151 rfl) rfl
theorem q1937 : (Jvm.Cond.methodLink "CrumbPicturesModel" (176 : Nat) ({ cls := "CrumbPicturesModel", name := "lengthWithout", desc := "(I)I" } : Jvm.MethodName)) ∈ lw_all := lw_g (lw_at lw_m8 152 rfl) rfl
theorem q1938 : (Jvm.Cond.privateMethod ({ cls := "CrumbPicturesModel", name := "lengthWithout", desc := "(I)I" } : Jvm.MethodName)) ∈ lw_tbl := lw_at lw_m8 153 rfl
theorem q1939 : (Jvm.Cond.instanceMethod ({ cls := "CrumbPicturesModel", name := "lengthWithout", desc := "(I)I" } : Jvm.MethodName)) ∈ lw_all := lw_g (lw_at lw_m8 154 rfl) rfl
theorem q1940 : (Jvm.Cond.code ({ cls := "CrumbPicturesModel", name := "lengthWithout", desc := "(I)I" } : Jvm.MethodName) prog_11_method_55_code (3 : Nat) (Option.some Jvm.ClassFile.FieldType.int)) ∈ lw_all := lw_g (lw_at lw_m8 155 rfl) rfl
theorem q1942 : (Jvm.Cond.instanceMethod ({ cls := "CrumbPicturesModel", name := "zeroShare", desc := "()D" } : Jvm.MethodName)) ∈ lw_all := lw_g (lw_at lw_m8 157 rfl) rfl
theorem q1943 : (Jvm.Cond.selects "CrumbPicturesModel" ({ cls := "CrumbPicturesModel", name := "zeroShare", desc := "()D" } : Jvm.MethodName) ({ cls := "CrumbPicturesModel", name := "zeroShare", desc := "()D" } : Jvm.MethodName)) ∈ lw_all := lw_g (lw_at lw_m8 158 rfl) rfl
theorem q1944 : (Jvm.Cond.code ({ cls := "CrumbPicturesModel", name := "zeroShare", desc := "()D" } : Jvm.MethodName) prog_11_method_59_code (1 : Nat) (Option.some Jvm.ClassFile.FieldType.double)) ∈ lw_all := lw_g (lw_at lw_m8 159 rfl) rfl
theorem q1945 : (Jvm.Cond.methodLink "CrumbPicturesModel" (181 : Nat) ({ cls := "CrumbPicturesModel", name := "shareOfZeros", desc := "()D" } : Jvm.MethodName)) ∈ lw_all := lw_g (lw_at lw_m8 160 rfl) rfl
theorem q1946 : (Jvm.Cond.privateMethod ({ cls := "CrumbPicturesModel", name := "shareOfZeros", desc := "()D" } : Jvm.MethodName)) ∈ lw_tbl := lw_at lw_m8 161 rfl
theorem q1947 : (Jvm.Cond.instanceMethod ({ cls := "CrumbPicturesModel", name := "shareOfZeros", desc := "()D" } : Jvm.MethodName)) ∈ lw_all := lw_g (lw_at lw_m8 162 rfl) rfl
theorem q1948 : (Jvm.Cond.code ({ cls := "CrumbPicturesModel", name := "shareOfZeros", desc := "()D" } : Jvm.MethodName) prog_11_method_58_code (3 : Nat) (Option.some Jvm.ClassFile.FieldType.double)) ∈ lw_all := lw_g (lw_at lw_m8 163 rfl) rfl
theorem q1949 : (Jvm.Cond.constantDouble "CrumbPicturesModel" (179 : Nat) (4634204016564240384 : UInt64)) ∈ lw_all := lw_g (lw_at lw_m8 164 rfl) rfl
theorem q1951 : (Jvm.Cond.instanceMethod ({ cls := "CrumbPicturesModel", name := "setShade", desc := "(III)I" } : Jvm.MethodName)) ∈ lw_all := lw_g (lw_at lw_m8 166 rfl) rfl
theorem q1952 : (Jvm.Cond.selects "CrumbPicturesModel" ({ cls := "CrumbPicturesModel", name := "setShade", desc := "(III)I" } : Jvm.MethodName) ({ cls := "CrumbPicturesModel", name := "setShade", desc := "(III)I" } : Jvm.MethodName)) ∈ lw_all := lw_g (lw_at lw_m8 167 rfl) rfl
theorem q1953 : (Jvm.Cond.code ({ cls := "CrumbPicturesModel", name := "setShade", desc := "(III)I" } : Jvm.MethodName) prog_11_method_60_code (5 : Nat) (Option.some Jvm.ClassFile.FieldType.int)) ∈ lw_all := lw_g (lw_at lw_m8 168 rfl) rfl
theorem q1955 : (Jvm.Cond.instanceMethod ({ cls := "CrumbPicturesModel", name := "fillRow", desc := "(III)I" } : Jvm.MethodName)) ∈ lw_all := lw_g (lw_at lw_m8 170 rfl) rfl
theorem q1956 : (Jvm.Cond.selects "CrumbPicturesModel" ({ cls := "CrumbPicturesModel", name := "fillRow", desc := "(III)I" } : Jvm.MethodName) ({ cls := "CrumbPicturesModel", name := "fillRow", desc := "(III)I" } : Jvm.MethodName)) ∈ lw_all := lw_g (lw_at lw_m8 171 rfl) rfl
theorem q1957 : (Jvm.Cond.code ({ cls := "CrumbPicturesModel", name := "fillRow", desc := "(III)I" } : Jvm.MethodName) prog_11_method_61_code (6 : Nat) (Option.some Jvm.ClassFile.FieldType.int)) ∈ lw_all := lw_g (lw_at lw_m8 172 rfl) rfl
theorem q1959 : (Jvm.Cond.instanceMethod ({ cls := "CrumbPicturesModel", name := "setPart", desc := "(III)I" } : Jvm.MethodName)) ∈ lw_all := lw_g (lw_at lw_m8 174 rfl) rfl
theorem q1960 : (Jvm.Cond.selects "CrumbPicturesModel" ({ cls := "CrumbPicturesModel", name := "setPart", desc := "(III)I" } : Jvm.MethodName) ({ cls := "CrumbPicturesModel", name := "setPart", desc := "(III)I" } : Jvm.MethodName)) ∈ lw_all := lw_g (lw_at lw_m8 175 rfl) rfl
theorem q1961 : (Jvm.Cond.code ({ cls := "CrumbPicturesModel", name := "setPart", desc := "(III)I" } : Jvm.MethodName) prog_11_method_64_code (6 : Nat) (Option.some Jvm.ClassFile.FieldType.int)) ∈ lw_all := lw_g (lw_at lw_m8 176 rfl) rfl
theorem q1962 : (Jvm.Cond.methodLink "CrumbPicturesModel" (185 : Nat) ({ cls := "CrumbPicturesModel", name := "canPart", desc := "(II)Z" } : Jvm.MethodName)) ∈ lw_all := lw_g (lw_at lw_m8 177 rfl) rfl
theorem q1963 : (Jvm.Cond.privateMethod ({ cls := "CrumbPicturesModel", name := "canPart", desc := "(II)Z" } : Jvm.MethodName)) ∈ lw_tbl := lw_at lw_m8 178 rfl
theorem q1964 : (Jvm.Cond.instanceMethod ({ cls := "CrumbPicturesModel", name := "canPart", desc := "(II)Z" } : Jvm.MethodName)) ∈ lw_all := lw_g (lw_at lw_m8 179 rfl) rfl
theorem q1965 : (Jvm.Cond.code ({ cls := "CrumbPicturesModel", name := "canPart", desc := "(II)Z" } : Jvm.MethodName) prog_11_method_62_code (5 : Nat) (Option.some Jvm.ClassFile.FieldType.boolean)) ∈ lw_all := lw_g (lw_at lw_m8 180 rfl) rfl
theorem q1966 : (Jvm.Cond.methodLink "CrumbPicturesModel" (188 : Nat) ({ cls := "CrumbPicturesModel", name := "takeBack", desc := "()I" } : Jvm.MethodName)) ∈ lw_all := lw_g (lw_at lw_m8 181 rfl) rfl
theorem q1967 : (Jvm.Cond.privateMethod ({ cls := "CrumbPicturesModel", name := "takeBack", desc := "()I" } : Jvm.MethodName)) ∈ lw_tbl := lw_at lw_m8 182 rfl
theorem q1968 : (Jvm.Cond.instanceMethod ({ cls := "CrumbPicturesModel", name := "takeBack", desc := "()I" } : Jvm.MethodName)) ∈ lw_all := lw_g (lw_at lw_m8 183 rfl) rfl
theorem q1969 : (Jvm.Cond.code ({ cls := "CrumbPicturesModel", name := "takeBack", desc := "()I" } : Jvm.MethodName) prog_11_method_63_code (3 : Nat) (Option.some Jvm.ClassFile.FieldType.int)) ∈ lw_all := lw_g (lw_at lw_m8 184 rfl) rfl
theorem q1971 : (Jvm.Cond.instanceMethod ({ cls := "CrumbPicturesModel", name := "dropCrumbs", desc := "(I)I" } : Jvm.MethodName)) ∈ lw_all := lw_g (lw_at lw_m8 186 rfl) rfl
theorem q1972 : (Jvm.Cond.selects "CrumbPicturesModel" ({ cls := "CrumbPicturesModel", name := "dropCrumbs", desc := "(I)I" } : Jvm.MethodName) ({ cls := "CrumbPicturesModel", name := "dropCrumbs", desc := "(I)I" } : Jvm.MethodName)) ∈ lw_all := lw_g (lw_at lw_m8 187 rfl) rfl
theorem q1973 : (Jvm.Cond.code ({ cls := "CrumbPicturesModel", name := "dropCrumbs", desc := "(I)I" } : Jvm.MethodName) prog_11_method_65_code (4 : Nat) (Option.some Jvm.ClassFile.FieldType.int)) ∈ lw_all := lw_g (lw_at lw_m8 188 rfl) rfl
theorem q1975 : (Jvm.Cond.instanceMethod ({ cls := "CrumbPicturesModel", name := "setLevels", desc := "(I)I" } : Jvm.MethodName)) ∈ lw_all := lw_g (lw_at lw_m8 190 rfl) rfl
theorem q1976 : (Jvm.Cond.selects "CrumbPicturesModel" ({ cls := "CrumbPicturesModel", name := "setLevels", desc := "(I)I" } : Jvm.MethodName) ({ cls := "CrumbPicturesModel", name := "setLevels", desc := "(I)I" } : Jvm.MethodName)) ∈ lw_all := lw_g (lw_at lw_m8 191 rfl) rfl
theorem q1977 : (Jvm.Cond.code ({ cls := "CrumbPicturesModel", name := "setLevels", desc := "(I)I" } : Jvm.MethodName) prog_11_method_66_code (3 : Nat) (Option.some Jvm.ClassFile.FieldType.int)) ∈ lw_all := lw_g (lw_at lw_m8 192 rfl) rfl
theorem q1979 : (Jvm.Cond.instanceMethod ({ cls := "CrumbPicturesModel", name := "turnRight", desc := "()I" } : Jvm.MethodName)) ∈ lw_all := lw_g (lw_at lw_m8 194 rfl) rfl
theorem q1980 : (Jvm.Cond.selects "CrumbPicturesModel" ({ cls := "CrumbPicturesModel", name := "turnRight", desc := "()I" } : Jvm.MethodName) ({ cls := "CrumbPicturesModel", name := "turnRight", desc := "()I" } : Jvm.MethodName)) ∈ lw_all := lw_g (lw_at lw_m8 195 rfl) rfl
theorem q1981 : (Jvm.Cond.code ({ cls := "CrumbPicturesModel", name := "turnRight", desc := "()I" } : Jvm.MethodName) prog_11_method_70_code (1 : Nat) (Option.some Jvm.ClassFile.FieldType.int)) ∈ lw_all := lw_g (lw_at lw_m8 196 rfl) rfl
theorem q1982 : (Jvm.Cond.methodLink "CrumbPicturesModel" (191 : Nat) ({ cls := "CrumbPicturesModel", name := "doTurn", desc := "()I" } : Jvm.MethodName)) ∈ lw_all := lw_g (lw_at lw_m8 197 rfl) rfl
theorem q1983 : (Jvm.Cond.privateMethod ({ cls := "CrumbPicturesModel", name := "doTurn", desc := "()I" } : Jvm.MethodName)) ∈ lw_tbl := lw_at lw_m8 198 rfl
theorem q1984 : (Jvm.Cond.instanceMethod ({ cls := "CrumbPicturesModel", name := "doTurn", desc := "()I" } : Jvm.MethodName)) ∈ lw_all := lw_g (lw_at lw_m8 199 rfl) rfl
theorem q1985 : (Jvm.Cond.code ({ cls := "CrumbPicturesModel", name := "doTurn", desc := "()I" } : Jvm.MethodName) prog_11_method_67_code (2 : Nat) (Option.some Jvm.ClassFile.FieldType.int)) ∈ lw_all := lw_g (lw_at lw_m8 200 rfl) rfl
theorem q1987 : (Jvm.Cond.instanceMethod ({ cls := "CrumbPicturesModel", name := "mirror", desc := "()I" } : Jvm.MethodName)) ∈ lw_all := lw_g (lw_at lw_m8 202 rfl) rfl
theorem q1988 : (Jvm.Cond.selects "CrumbPicturesModel" ({ cls := "CrumbPicturesModel", name := "mirror", desc := "()I" } : Jvm.MethodName) ({ cls := "CrumbPicturesModel", name := "mirror", desc := "()I" } : Jvm.MethodName)) ∈ lw_all := lw_g (lw_at lw_m8 203 rfl) rfl
theorem q1989 : (Jvm.Cond.code ({ cls := "CrumbPicturesModel", name := "mirror", desc := "()I" } : Jvm.MethodName) prog_11_method_71_code (1 : Nat) (Option.some Jvm.ClassFile.FieldType.int)) ∈ lw_all := lw_g (lw_at lw_m8 204 rfl) rfl
theorem q1990 : (Jvm.Cond.methodLink "CrumbPicturesModel" (194 : Nat) ({ cls := "CrumbPicturesModel", name := "doMirror", desc := "()I" } : Jvm.MethodName)) ∈ lw_all := lw_g (lw_at lw_m8 205 rfl) rfl
theorem q1991 : (Jvm.Cond.privateMethod ({ cls := "CrumbPicturesModel", name := "doMirror", desc := "()I" } : Jvm.MethodName)) ∈ lw_tbl := lw_at lw_m8 206 rfl
theorem q1992 : (Jvm.Cond.instanceMethod ({ cls := "CrumbPicturesModel", name := "doMirror", desc := "()I" } : Jvm.MethodName)) ∈ lw_all := lw_g (lw_at lw_m8 207 rfl) rfl
theorem q1993 : (Jvm.Cond.code ({ cls := "CrumbPicturesModel", name := "doMirror", desc := "()I" } : Jvm.MethodName) prog_11_method_68_code (2 : Nat) (Option.some Jvm.ClassFile.FieldType.int)) ∈ lw_all := lw_g (lw_at lw_m8 208 rfl) rfl
theorem q1995 : (Jvm.Cond.instanceMethod ({ cls := "CrumbPicturesModel", name := "invert", desc := "()I" } : Jvm.MethodName)) ∈ lw_all := lw_g (lw_at lw_m8 210 rfl) rfl
theorem q1996 : (Jvm.Cond.selects "CrumbPicturesModel" ({ cls := "CrumbPicturesModel", name := "invert", desc := "()I" } : Jvm.MethodName) ({ cls := "CrumbPicturesModel", name := "invert", desc := "()I" } : Jvm.MethodName)) ∈ lw_all := lw_g (lw_at lw_m8 211 rfl) rfl
theorem q1997 : (Jvm.Cond.code ({ cls := "CrumbPicturesModel", name := "invert", desc := "()I" } : Jvm.MethodName) prog_11_method_72_code (1 : Nat) (Option.some Jvm.ClassFile.FieldType.int)) ∈ lw_all := lw_g (lw_at lw_m8 212 rfl) rfl
theorem q1998 : (Jvm.Cond.methodLink "CrumbPicturesModel" (197 : Nat) ({ cls := "CrumbPicturesModel", name := "doInvert", desc := "()V" } : Jvm.MethodName)) ∈ lw_all := lw_g (lw_at lw_m8 213 rfl) rfl
theorem q1999 : (Jvm.Cond.privateMethod ({ cls := "CrumbPicturesModel", name := "doInvert", desc := "()V" } : Jvm.MethodName)) ∈ lw_tbl := lw_at lw_m8 214 rfl
theorem q2000 : (Jvm.Cond.instanceMethod ({ cls := "CrumbPicturesModel", name := "doInvert", desc := "()V" } : Jvm.MethodName)) ∈ lw_all := lw_g (lw_at lw_m8 215 rfl) rfl
theorem q2001 : (Jvm.Cond.code ({ cls := "CrumbPicturesModel", name := "doInvert", desc := "()V" } : Jvm.MethodName) prog_11_method_69_code (2 : Nat) (Option.none : Option Jvm.ClassFile.FieldType)) ∈ lw_all := lw_g (lw_at lw_m8 216 rfl) rfl
theorem q2003 : (Jvm.Cond.instanceMethod ({ cls := "CrumbPicturesModel", name := "shade", desc := "(II)I" } : Jvm.MethodName)) ∈ lw_all := lw_g (lw_at lw_m8 218 rfl) rfl
theorem q2004 : (Jvm.Cond.selects "CrumbPicturesModel" ({ cls := "CrumbPicturesModel", name := "shade", desc := "(II)I" } : Jvm.MethodName) ({ cls := "CrumbPicturesModel", name := "shade", desc := "(II)I" } : Jvm.MethodName)) ∈ lw_all := lw_g (lw_at lw_m8 219 rfl) rfl
theorem q2005 : (Jvm.Cond.code ({ cls := "CrumbPicturesModel", name := "shade", desc := "(II)I" } : Jvm.MethodName) prog_11_method_73_code (3 : Nat) (Option.some Jvm.ClassFile.FieldType.int)) ∈ lw_all := lw_g (lw_at lw_m8 220 rfl) rfl
theorem q2007 : (Jvm.Cond.instanceMethod ({ cls := "CrumbPicturesModel", name := "levels", desc := "()I" } : Jvm.MethodName)) ∈ lw_all := lw_g (lw_at lw_m8 222 rfl) rfl
theorem q2008 : (Jvm.Cond.selects "CrumbPicturesModel" ({ cls := "CrumbPicturesModel", name := "levels", desc := "()I" } : Jvm.MethodName) ({ cls := "CrumbPicturesModel", name := "levels", desc := "()I" } : Jvm.MethodName)) ∈ lw_all := lw_g (lw_at lw_m8 223 rfl) rfl
theorem q2009 : (Jvm.Cond.code ({ cls := "CrumbPicturesModel", name := "levels", desc := "()I" } : Jvm.MethodName) prog_11_method_74_code (1 : Nat) (Option.some Jvm.ClassFile.FieldType.int)) ∈ lw_all := lw_g (lw_at lw_m8 224 rfl) rfl
theorem q2011 : (Jvm.Cond.instanceMethod ({ cls := "CrumbPicturesModel", name := "allShades", desc := "()I" } : Jvm.MethodName)) ∈ lw_all := lw_g (lw_at lw_m8 226 rfl) rfl
theorem q2012 : (Jvm.Cond.selects "CrumbPicturesModel" ({ cls := "CrumbPicturesModel", name := "allShades", desc := "()I" } : Jvm.MethodName) ({ cls := "CrumbPicturesModel", name := "allShades", desc := "()I" } : Jvm.MethodName)) ∈ lw_all := lw_g (lw_at lw_m8 227 rfl) rfl
theorem q2013 : (Jvm.Cond.code ({ cls := "CrumbPicturesModel", name := "allShades", desc := "()I" } : Jvm.MethodName) prog_11_method_75_code (1 : Nat) (Option.some Jvm.ClassFile.FieldType.int)) ∈ lw_all := lw_g (lw_at lw_m8 228 rfl) rfl
theorem q2015 : (Jvm.Cond.instanceMethod ({ cls := "CrumbPicturesModel", name := "part", desc := "(II)I" } : Jvm.MethodName)) ∈ lw_all := lw_g (lw_at lw_m8 230 rfl) rfl
theorem q2016 : (Jvm.Cond.selects "CrumbPicturesModel" ({ cls := "CrumbPicturesModel", name := "part", desc := "(II)I" } : Jvm.MethodName) ({ cls := "CrumbPicturesModel", name := "part", desc := "(II)I" } : Jvm.MethodName)) ∈ lw_all := lw_g (lw_at lw_m8 231 rfl) rfl
theorem q2017 : (Jvm.Cond.code ({ cls := "CrumbPicturesModel", name := "part", desc := "(II)I" } : Jvm.MethodName) prog_11_method_76_code (3 : Nat) (Option.some Jvm.ClassFile.FieldType.int)) ∈ lw_all := lw_g (lw_at lw_m8 232 rfl) rfl
theorem q2019 : (Jvm.Cond.instanceMethod ({ cls := "CrumbPicturesModel", name := "bandOf", desc := "(II)I" } : Jvm.MethodName)) ∈ lw_all := lw_g (lw_at lw_m8 234 rfl) rfl
theorem q2020 : (Jvm.Cond.selects "CrumbPicturesModel" ({ cls := "CrumbPicturesModel", name := "bandOf", desc := "(II)I" } : Jvm.MethodName) ({ cls := "CrumbPicturesModel", name := "bandOf", desc := "(II)I" } : Jvm.MethodName)) ∈ lw_all := lw_g (lw_at lw_m8 235 rfl) rfl
theorem q2021 : (Jvm.Cond.code ({ cls := "CrumbPicturesModel", name := "bandOf", desc := "(II)I" } : Jvm.MethodName) prog_11_method_77_code (3 : Nat) (Option.some Jvm.ClassFile.FieldType.int)) ∈ lw_all := lw_g (lw_at lw_m8 236 rfl) rfl
theorem q2023 : (Jvm.Cond.instanceMethod ({ cls := "CrumbPicturesModel", name := "placeOf", desc := "(II)I" } : Jvm.MethodName)) ∈ lw_all := lw_g (lw_at lw_m8 238 rfl) rfl
theorem q2024 : (Jvm.Cond.selects "CrumbPicturesModel" ({ cls := "CrumbPicturesModel", name := "placeOf", desc := "(II)I" } : Jvm.MethodName) ({ cls := "CrumbPicturesModel", name := "placeOf", desc := "(II)I" } : Jvm.MethodName)) ∈ lw_all := lw_g (lw_at lw_m8 239 rfl) rfl
theorem q2025 : (Jvm.Cond.code ({ cls := "CrumbPicturesModel", name := "placeOf", desc := "(II)I" } : Jvm.MethodName) prog_11_method_78_code (3 : Nat) (Option.some Jvm.ClassFile.FieldType.int)) ∈ lw_all := lw_g (lw_at lw_m9 0 rfl) rfl
theorem q2026 : (Jvm.Cond.methodLink "CrumbPicturesModel" (200 : Nat) ({ cls := "CrumbPicturesModel", name := "place", desc := "(II)I" } : Jvm.MethodName)) ∈ lw_all := lw_g (lw_at lw_m9 1 rfl) rfl
theorem q2027 : (Jvm.Cond.static ({ cls := "CrumbPicturesModel", name := "place", desc := "(II)I" } : Jvm.MethodName)) ∈ lw_all := lw_g (lw_at lw_m9 2 rfl) rfl
theorem q2028 : (Jvm.Cond.code ({ cls := "CrumbPicturesModel", name := "place", desc := "(II)I" } : Jvm.MethodName) prog_11_method_22_code (4 : Nat) (Option.some Jvm.ClassFile.FieldType.int)) ∈ lw_all := lw_g (lw_at lw_m9 3 rfl) rfl
theorem q2030 : (Jvm.Cond.instanceMethod ({ cls := "CrumbPicturesModel", name := "energy", desc := "(I)I" } : Jvm.MethodName)) ∈ lw_all := lw_g (lw_at lw_m9 5 rfl) rfl
theorem q2031 : (Jvm.Cond.selects "CrumbPicturesModel" ({ cls := "CrumbPicturesModel", name := "energy", desc := "(I)I" } : Jvm.MethodName) ({ cls := "CrumbPicturesModel", name := "energy", desc := "(I)I" } : Jvm.MethodName)) ∈ lw_all := lw_g (lw_at lw_m9 6 rfl) rfl
theorem q2032 : (Jvm.Cond.code ({ cls := "CrumbPicturesModel", name := "energy", desc := "(I)I" } : Jvm.MethodName) prog_11_method_80_code (2 : Nat) (Option.some Jvm.ClassFile.FieldType.int)) ∈ lw_all := lw_g (lw_at lw_m9 7 rfl) rfl
theorem q2033 : (Jvm.Cond.methodLink "CrumbPicturesModel" (203 : Nat) ({ cls := "CrumbPicturesModel", name := "energyOf", desc := "(I)I" } : Jvm.MethodName)) ∈ lw_all := lw_g (lw_at lw_m9 8 rfl) rfl
theorem q2034 : (Jvm.Cond.privateMethod ({ cls := "CrumbPicturesModel", name := "energyOf", desc := "(I)I" } : Jvm.MethodName)) ∈ lw_tbl := lw_at lw_m9 9 rfl
theorem q2035 : (Jvm.Cond.instanceMethod ({ cls := "CrumbPicturesModel", name := "energyOf", desc := "(I)I" } : Jvm.MethodName)) ∈ lw_all := lw_g (lw_at lw_m9 10 rfl) rfl
theorem q2036 : (Jvm.Cond.code ({ cls := "CrumbPicturesModel", name := "energyOf", desc := "(I)I" } : Jvm.MethodName) prog_11_method_79_code (4 : Nat) (Option.some Jvm.ClassFile.FieldType.int)) ∈ lw_all := lw_g (lw_at lw_m9 11 rfl) rfl
theorem q2038 : (Jvm.Cond.instanceMethod ({ cls := "CrumbPicturesModel", name := "shadeBack", desc := "(II)I" } : Jvm.MethodName)) ∈ lw_all := lw_g (lw_at lw_m9 13 rfl) rfl
theorem q2039 : (Jvm.Cond.selects "CrumbPicturesModel" ({ cls := "CrumbPicturesModel", name := "shadeBack", desc := "(II)I" } : Jvm.MethodName) ({ cls := "CrumbPicturesModel", name := "shadeBack", desc := "(II)I" } : Jvm.MethodName)) ∈ lw_all := lw_g (lw_at lw_m9 14 rfl) rfl
theorem q2040 : (Jvm.Cond.code ({ cls := "CrumbPicturesModel", name := "shadeBack", desc := "(II)I" } : Jvm.MethodName) prog_11_method_82_code (3 : Nat) (Option.some Jvm.ClassFile.FieldType.int)) ∈ lw_all := lw_g (lw_at lw_m9 15 rfl) rfl
theorem q2041 : (Jvm.Cond.methodLink "CrumbPicturesModel" (206 : Nat) ({ cls := "CrumbPicturesModel", name := "tellBack", desc := "(II)I" } : Jvm.MethodName)) ∈ lw_all := lw_g (lw_at lw_m9 16 rfl) rfl
theorem q2042 : (Jvm.Cond.privateMethod ({ cls := "CrumbPicturesModel", name := "tellBack", desc := "(II)I" } : Jvm.MethodName)) ∈ lw_tbl := lw_at lw_m9 17 rfl
theorem q2043 : (Jvm.Cond.instanceMethod ({ cls := "CrumbPicturesModel", name := "tellBack", desc := "(II)I" } : Jvm.MethodName)) ∈ lw_all := lw_g (lw_at lw_m9 18 rfl) rfl
theorem q2044 : (Jvm.Cond.code ({ cls := "CrumbPicturesModel", name := "tellBack", desc := "(II)I" } : Jvm.MethodName) prog_11_method_81_code (3 : Nat) (Option.some Jvm.ClassFile.FieldType.int)) ∈ lw_all := lw_g (lw_at lw_m9 19 rfl) rfl
theorem q2046 : (Jvm.Cond.instanceMethod ({ cls := "CrumbPicturesModel", name := "shadeByParts", desc := "(II)I" } : Jvm.MethodName)) ∈ lw_all := lw_g (lw_at lw_m9 21 rfl) rfl
theorem q2047 : (Jvm.Cond.selects "CrumbPicturesModel" ({ cls := "CrumbPicturesModel", name := "shadeByParts", desc := "(II)I" } : Jvm.MethodName) ({ cls := "CrumbPicturesModel", name := "shadeByParts", desc := "(II)I" } : Jvm.MethodName)) ∈ lw_all := lw_g (lw_at lw_m9 22 rfl) rfl
theorem q2048 : (Jvm.Cond.code ({ cls := "CrumbPicturesModel", name := "shadeByParts", desc := "(II)I" } : Jvm.MethodName) prog_11_method_83_code (3 : Nat) (Option.some Jvm.ClassFile.FieldType.int)) ∈ lw_all := lw_g (lw_at lw_m9 23 rfl) rfl
theorem q2050 : (Jvm.Cond.instanceMethod ({ cls := "CrumbPicturesModel", name := "partsChanged", desc := "(III)I" } : Jvm.MethodName)) ∈ lw_all := lw_g (lw_at lw_m9 25 rfl) rfl
theorem q2051 : (Jvm.Cond.selects "CrumbPicturesModel" ({ cls := "CrumbPicturesModel", name := "partsChanged", desc := "(III)I" } : Jvm.MethodName) ({ cls := "CrumbPicturesModel", name := "partsChanged", desc := "(III)I" } : Jvm.MethodName)) ∈ lw_all := lw_g (lw_at lw_m9 26 rfl) rfl
theorem q2052 : (Jvm.Cond.code ({ cls := "CrumbPicturesModel", name := "partsChanged", desc := "(III)I" } : Jvm.MethodName) prog_11_method_85_code (4 : Nat) (Option.some Jvm.ClassFile.FieldType.int)) ∈ lw_all := lw_g (lw_at lw_m9 27 rfl) rfl
theorem q2053 : (Jvm.Cond.methodLink "CrumbPicturesModel" (209 : Nat) ({ cls := "CrumbPicturesModel", name := "changedBy", desc := "(II)I" } : Jvm.MethodName)) ∈ lw_all := lw_g (lw_at lw_m9 28 rfl) rfl
theorem q2054 : (Jvm.Cond.privateMethod ({ cls := "CrumbPicturesModel", name := "changedBy", desc := "(II)I" } : Jvm.MethodName)) ∈ lw_tbl := lw_at lw_m9 29 rfl
theorem q2055 : (Jvm.Cond.instanceMethod ({ cls := "CrumbPicturesModel", name := "changedBy", desc := "(II)I" } : Jvm.MethodName)) ∈ lw_all := lw_g (lw_at lw_m9 30 rfl) rfl
theorem q2056 : (Jvm.Cond.code ({ cls := "CrumbPicturesModel", name := "changedBy", desc := "(II)I" } : Jvm.MethodName) prog_11_method_84_code (6 : Nat) (Option.some Jvm.ClassFile.FieldType.int)) ∈ lw_all := lw_g (lw_at lw_m9 31 rfl) rfl
theorem q2058 : (Jvm.Cond.instanceMethod ({ cls := "CrumbPicturesModel", name := "append", desc := "(I)I" } : Jvm.MethodName)) ∈ lw_all := lw_g (lw_at lw_m9 33 rfl) rfl
theorem q2059 : (Jvm.Cond.selects "CrumbPicturesModel" ({ cls := "CrumbPicturesModel", name := "append", desc := "(I)I" } : Jvm.MethodName) ({ cls := "CrumbPicturesModel", name := "append", desc := "(I)I" } : Jvm.MethodName)) ∈ lw_all := lw_g (lw_at lw_m9 34 rfl) rfl
theorem q2060 : (Jvm.Cond.code ({ cls := "CrumbPicturesModel", name := "append", desc := "(I)I" } : Jvm.MethodName) prog_11_method_86_code (2 : Nat) (Option.some Jvm.ClassFile.FieldType.int)) ∈ lw_all := lw_g (lw_at lw_m9 35 rfl) rfl
theorem q2062 : (Jvm.Cond.instanceMethod ({ cls := "CrumbPicturesModel", name := "clearBuffer", desc := "()I" } : Jvm.MethodName)) ∈ lw_all := lw_g (lw_at lw_m9 37 rfl) rfl
theorem q2063 : (Jvm.Cond.selects "CrumbPicturesModel" ({ cls := "CrumbPicturesModel", name := "clearBuffer", desc := "()I" } : Jvm.MethodName) ({ cls := "CrumbPicturesModel", name := "clearBuffer", desc := "()I" } : Jvm.MethodName)) ∈ lw_all := lw_g (lw_at lw_m9 38 rfl) rfl
theorem q2064 : (Jvm.Cond.code ({ cls := "CrumbPicturesModel", name := "clearBuffer", desc := "()I" } : Jvm.MethodName) prog_11_method_87_code (2 : Nat) (Option.some Jvm.ClassFile.FieldType.int)) ∈ lw_all := lw_g (lw_at lw_m9 39 rfl) rfl
theorem q2066 : (Jvm.Cond.instanceMethod ({ cls := "CrumbPicturesModel", name := "firstError", desc := "()I" } : Jvm.MethodName)) ∈ lw_all := lw_g (lw_at lw_m9 41 rfl) rfl
theorem q2067 : (Jvm.Cond.selects "CrumbPicturesModel" ({ cls := "CrumbPicturesModel", name := "firstError", desc := "()I" } : Jvm.MethodName) ({ cls := "CrumbPicturesModel", name := "firstError", desc := "()I" } : Jvm.MethodName)) ∈ lw_all := lw_g (lw_at lw_m9 42 rfl) rfl
theorem q2068 : (Jvm.Cond.code ({ cls := "CrumbPicturesModel", name := "firstError", desc := "()I" } : Jvm.MethodName) prog_11_method_95_code (2 : Nat) (Option.some Jvm.ClassFile.FieldType.int)) ∈ lw_all := lw_g (lw_at lw_m9 43 rfl) rfl
theorem q2069 : (Jvm.Cond.methodLink "CrumbPicturesModel" (244 : Nat) ({ cls := "CrumbPicturesModel", name := "isWorks", desc := "()Z" } : Jvm.MethodName)) ∈ lw_all := lw_g (lw_at lw_m9 44 rfl) rfl
theorem q2070 : (Jvm.Cond.privateMethod ({ cls := "CrumbPicturesModel", name := "isWorks", desc := "()Z" } : Jvm.MethodName)) ∈ lw_tbl := lw_at lw_m9 45 rfl
theorem q2071 : (Jvm.Cond.instanceMethod ({ cls := "CrumbPicturesModel", name := "isWorks", desc := "()Z" } : Jvm.MethodName)) ∈ lw_all := lw_g (lw_at lw_m9 46 rfl) rfl
theorem q2072 : (Jvm.Cond.code ({ cls := "CrumbPicturesModel", name := "isWorks", desc := "()Z" } : Jvm.MethodName) prog_11_method_94_code (2 : Nat) (Option.some Jvm.ClassFile.FieldType.boolean)) ∈ lw_all := lw_g (lw_at lw_m9 47 rfl) rfl
theorem q2073 : (Jvm.Cond.methodLink "CrumbPicturesModel" (241 : Nat) ({ cls := "CrumbPicturesModel", name := "textPart", desc := "()Z" } : Jvm.MethodName)) ∈ lw_all := lw_g (lw_at lw_m9 48 rfl) rfl
theorem q2074 : (Jvm.Cond.privateMethod ({ cls := "CrumbPicturesModel", name := "textPart", desc := "()Z" } : Jvm.MethodName)) ∈ lw_tbl := lw_at lw_m9 49 rfl
theorem q2075 : (Jvm.Cond.instanceMethod ({ cls := "CrumbPicturesModel", name := "textPart", desc := "()Z" } : Jvm.MethodName)) ∈ lw_all := lw_g (lw_at lw_m9 50 rfl) rfl
theorem q2076 : (Jvm.Cond.code ({ cls := "CrumbPicturesModel", name := "textPart", desc := "()Z" } : Jvm.MethodName) prog_11_method_93_code (1 : Nat) (Option.some Jvm.ClassFile.FieldType.boolean)) ∈ lw_all := lw_g (lw_at lw_m9 51 rfl) rfl
theorem q2077 : (Jvm.Cond.methodLink "CrumbPicturesModel" (234 : Nat) ({ cls := "CrumbPicturesModel", name := "assigns", desc := "(Z)Z" } : Jvm.MethodName)) ∈ lw_all := lw_g (lw_at lw_m9 52 rfl) rfl
theorem q2078 : (Jvm.Cond.privateMethod ({ cls := "CrumbPicturesModel", name := "assigns", desc := "(Z)Z" } : Jvm.MethodName)) ∈ lw_tbl := lw_at lw_m9 53 rfl
theorem q2079 : (Jvm.Cond.instanceMethod ({ cls := "CrumbPicturesModel", name := "assigns", desc := "(Z)Z" } : Jvm.MethodName)) ∈ lw_all := lw_g (lw_at lw_m9 54 rfl) rfl
theorem q2080 : (Jvm.Cond.code ({ cls := "CrumbPicturesModel", name := "assigns", desc := "(Z)Z" } : Jvm.MethodName) prog_11_method_91_code (3 : Nat) (Option.some Jvm.ClassFile.FieldType.boolean)) ∈ lw_all := lw_g (lw_at lw_m9 55 rfl) rfl
theorem q2081 : (Jvm.Cond.methodLink "CrumbPicturesModel" (230 : Nat) ({ cls := "CrumbPicturesModel", name := "cell", desc := "()Z" } : Jvm.MethodName)) ∈ lw_all := lw_g (lw_at lw_m9 56 rfl) rfl
theorem q2082 : (Jvm.Cond.privateMethod ({ cls := "CrumbPicturesModel", name := "cell", desc := "()Z" } : Jvm.MethodName)) ∈ lw_tbl := lw_at lw_m9 57 rfl
theorem q2083 : (Jvm.Cond.instanceMethod ({ cls := "CrumbPicturesModel", name := "cell", desc := "()Z" } : Jvm.MethodName)) ∈ lw_all := lw_g (lw_at lw_m9 58 rfl) rfl
theorem q2084 : (Jvm.Cond.code ({ cls := "CrumbPicturesModel", name := "cell", desc := "()Z" } : Jvm.MethodName) prog_11_method_90_code (1 : Nat) (Option.some Jvm.ClassFile.FieldType.boolean)) ∈ lw_all := lw_g (lw_at lw_m9 59 rfl) rfl
theorem q2085 : (Jvm.Cond.methodLink "CrumbPicturesModel" (221 : Nat) ({ cls := "CrumbPicturesModel", name := "reads", desc := "(II)Z" } : Jvm.MethodName)) ∈ lw_all := lw_g (lw_at lw_m9 60 rfl) rfl
theorem q2086 : (Jvm.Cond.privateMethod ({ cls := "CrumbPicturesModel", name := "reads", desc := "(II)Z" } : Jvm.MethodName)) ∈ lw_tbl := lw_at lw_m9 61 rfl
theorem q2087 : (Jvm.Cond.instanceMethod ({ cls := "CrumbPicturesModel", name := "reads", desc := "(II)Z" } : Jvm.MethodName)) ∈ lw_all := lw_g (lw_at lw_m9 62 rfl) rfl
theorem q2088 : (Jvm.Cond.code ({ cls := "CrumbPicturesModel", name := "reads", desc := "(II)Z" } : Jvm.MethodName) prog_11_method_88_code (6 : Nat) (Option.some Jvm.ClassFile.FieldType.boolean)) ∈ lw_all := lw_g (lw_at lw_m9 63 rfl) rfl
theorem q2089 : (Jvm.Cond.methodLink "CrumbPicturesModel" (227 : Nat) ({ cls := "CrumbPicturesModel", name := "sign", desc := "(I)Z" } : Jvm.MethodName)) ∈ lw_all := lw_g (lw_at lw_m9 64 rfl) rfl
theorem q2090 : (Jvm.Cond.privateMethod ({ cls := "CrumbPicturesModel", name := "sign", desc := "(I)Z" } : Jvm.MethodName)) ∈ lw_tbl := lw_at lw_m9 65 rfl
theorem q2091 : (Jvm.Cond.instanceMethod ({ cls := "CrumbPicturesModel", name := "sign", desc := "(I)Z" } : Jvm.MethodName)) ∈ lw_all := lw_g (lw_at lw_m9 66 rfl) rfl
theorem q2092 : (Jvm.Cond.code ({ cls := "CrumbPicturesModel", name := "sign", desc := "(I)Z" } : Jvm.MethodName) prog_11_method_89_code (2 : Nat) (Option.some Jvm.ClassFile.FieldType.boolean)) ∈ lw_all := lw_g (lw_at lw_m9 67 rfl) rfl
theorem q2093 : (Jvm.Cond.methodLink "CrumbPicturesModel" (238 : Nat) ({ cls := "CrumbPicturesModel", name := "single", desc := "(II)Z" } : Jvm.MethodName)) ∈ lw_all := lw_g (lw_at lw_m9 68 rfl) rfl
theorem q2094 : (Jvm.Cond.privateMethod ({ cls := "CrumbPicturesModel", name := "single", desc := "(II)Z" } : Jvm.MethodName)) ∈ lw_tbl := lw_at lw_m9 69 rfl
theorem q2095 : (Jvm.Cond.instanceMethod ({ cls := "CrumbPicturesModel", name := "single", desc := "(II)Z" } : Jvm.MethodName)) ∈ lw_all := lw_g (lw_at lw_m9 70 rfl) rfl
theorem q2096 : (Jvm.Cond.code ({ cls := "CrumbPicturesModel", name := "single", desc := "(II)Z" } : Jvm.MethodName) prog_11_method_92_code (3 : Nat) (Option.some Jvm.ClassFile.FieldType.boolean)) ∈ lw_all := lw_g (lw_at lw_m9 71 rfl) rfl
theorem q2098 : (Jvm.Cond.instanceMethod ({ cls := "CrumbPicturesModel", name := "work", desc := "()I" } : Jvm.MethodName)) ∈ lw_all := lw_g (lw_at lw_m9 73 rfl) rfl
theorem q2099 : (Jvm.Cond.selects "CrumbPicturesModel" ({ cls := "CrumbPicturesModel", name := "work", desc := "()I" } : Jvm.MethodName) ({ cls := "CrumbPicturesModel", name := "work", desc := "()I" } : Jvm.MethodName)) ∈ lw_all := lw_g (lw_at lw_m9 74 rfl) rfl
theorem q2100 : (Jvm.Cond.code ({ cls := "CrumbPicturesModel", name := "work", desc := "()I" } : Jvm.MethodName) prog_11_method_97_code (3 : Nat) (Option.some Jvm.ClassFile.FieldType.int)) ∈ lw_all := lw_g (lw_at lw_m9 75 rfl) rfl
theorem q2101 : (Jvm.Cond.methodLink "CrumbPicturesModel" (247 : Nat) ({ cls := "CrumbPicturesModel", name := "does", desc := "(I)I" } : Jvm.MethodName)) ∈ lw_all := lw_g (lw_at lw_m9 76 rfl) rfl
theorem q2102 : (Jvm.Cond.privateMethod ({ cls := "CrumbPicturesModel", name := "does", desc := "(I)I" } : Jvm.MethodName)) ∈ lw_tbl := lw_at lw_m9 77 rfl
theorem q2103 : (Jvm.Cond.instanceMethod ({ cls := "CrumbPicturesModel", name := "does", desc := "(I)I" } : Jvm.MethodName)) ∈ lw_all := lw_g (lw_at lw_m9 78 rfl) rfl
theorem q2104 : (Jvm.Cond.code ({ cls := "CrumbPicturesModel", name := "does", desc := "(I)I" } : Jvm.MethodName) prog_11_method_96_code (4 : Nat) (Option.some Jvm.ClassFile.FieldType.int)) ∈ lw_all := lw_g (lw_at lw_m9 79 rfl) rfl
theorem q2106 : (Jvm.Cond.instanceMethod ({ cls := "CrumbPicturesModel", name := "hasStopped", desc := "()Z" } : Jvm.MethodName)) ∈ lw_all := lw_g (lw_at lw_m9 81 rfl) rfl
theorem q2107 : (Jvm.Cond.selects "CrumbPicturesModel" ({ cls := "CrumbPicturesModel", name := "hasStopped", desc := "()Z" } : Jvm.MethodName) ({ cls := "CrumbPicturesModel", name := "hasStopped", desc := "()Z" } : Jvm.MethodName)) ∈ lw_all := lw_g (lw_at lw_m9 82 rfl) rfl
theorem q2108 : (Jvm.Cond.code ({ cls := "CrumbPicturesModel", name := "hasStopped", desc := "()Z" } : Jvm.MethodName) prog_11_method_98_code (1 : Nat) (Option.some Jvm.ClassFile.FieldType.boolean)) ∈ lw_all := lw_g (lw_at lw_m9 83 rfl) rfl
theorem q2110 : (Jvm.Cond.instanceMethod ({ cls := "CrumbPicturesModel", name := "stoppedPart", desc := "()I" } : Jvm.MethodName)) ∈ lw_all := lw_g (lw_at lw_m9 85 rfl) rfl
theorem q2111 : (Jvm.Cond.selects "CrumbPicturesModel" ({ cls := "CrumbPicturesModel", name := "stoppedPart", desc := "()I" } : Jvm.MethodName) ({ cls := "CrumbPicturesModel", name := "stoppedPart", desc := "()I" } : Jvm.MethodName)) ∈ lw_all := lw_g (lw_at lw_m9 86 rfl) rfl
theorem q2112 : (Jvm.Cond.code ({ cls := "CrumbPicturesModel", name := "stoppedPart", desc := "()I" } : Jvm.MethodName) prog_11_method_99_code (1 : Nat) (Option.some Jvm.ClassFile.FieldType.int)) ∈ lw_all := lw_g (lw_at lw_m9 87 rfl) rfl
theorem q2114 : (Jvm.Cond.instanceMethod ({ cls := "CrumbPicturesModel", name := "whyStopped", desc := "()I" } : Jvm.MethodName)) ∈ lw_all := lw_g (lw_at lw_m9 89 rfl) rfl
theorem q2115 : (Jvm.Cond.selects "CrumbPicturesModel" ({ cls := "CrumbPicturesModel", name := "whyStopped", desc := "()I" } : Jvm.MethodName) ({ cls := "CrumbPicturesModel", name := "whyStopped", desc := "()I" } : Jvm.MethodName)) ∈ lw_all := lw_g (lw_at lw_m9 90 rfl) rfl
theorem q2116 : (Jvm.Cond.code ({ cls := "CrumbPicturesModel", name := "whyStopped", desc := "()I" } : Jvm.MethodName) prog_11_method_100_code (1 : Nat) (Option.some Jvm.ClassFile.FieldType.int)) ∈ lw_all := lw_g (lw_at lw_m9 91 rfl) rfl
theorem q2118 : (Jvm.Cond.instanceMethod ({ cls := "CrumbPicturesModel", name := "digest", desc := "()J" } : Jvm.MethodName)) ∈ lw_all := lw_g (lw_at lw_m9 93 rfl) rfl
theorem q2119 : (Jvm.Cond.selects "CrumbPicturesModel" ({ cls := "CrumbPicturesModel", name := "digest", desc := "()J" } : Jvm.MethodName) ({ cls := "CrumbPicturesModel", name := "digest", desc := "()J" } : Jvm.MethodName)) ∈ lw_all := lw_g (lw_at lw_m9 94 rfl) rfl
theorem q2120 : (Jvm.Cond.code ({ cls := "CrumbPicturesModel", name := "digest", desc := "()J" } : Jvm.MethodName) prog_11_method_104_code (4 : Nat) (Option.some Jvm.ClassFile.FieldType.long)) ∈ lw_all := lw_g (lw_at lw_m9 95 rfl) rfl
theorem q2121 : (Jvm.Cond.constantLong "CrumbPicturesModel" (256 : Nat) (4663 : Int64)) ∈ lw_all := lw_g (lw_at lw_m9 96 rfl) rfl
theorem q2122 : (Jvm.Cond.methodLink "CrumbPicturesModel" (252 : Nat) ({ cls := "CrumbPicturesModel", name := "mix", desc := "(JJ)J" } : Jvm.MethodName)) ∈ lw_all := lw_g (lw_at lw_m9 97 rfl) rfl
theorem q2123 : (Jvm.Cond.static ({ cls := "CrumbPicturesModel", name := "mix", desc := "(JJ)J" } : Jvm.MethodName)) ∈ lw_all := lw_g (lw_at lw_m9 98 rfl) rfl
theorem q2124 : (Jvm.Cond.code ({ cls := "CrumbPicturesModel", name := "mix", desc := "(JJ)J" } : Jvm.MethodName) prog_11_method_101_code (4 : Nat) (Option.some Jvm.ClassFile.FieldType.long)) ∈ lw_all := lw_g (lw_at lw_m9 99 rfl) rfl
theorem q2125 : (Jvm.Cond.constantLong "CrumbPicturesModel" (250 : Nat) (31 : Int64)) ∈ lw_all := lw_g (lw_at lw_m9 100 rfl) rfl
theorem q2126 : (Jvm.Cond.methodLink "CrumbPicturesModel" (258 : Nat) ({ cls := "CrumbPicturesModel", name := "mixCells", desc := "(J)J" } : Jvm.MethodName)) ∈ lw_all := lw_g (lw_at lw_m9 101 rfl) rfl
theorem q2127 : (Jvm.Cond.privateMethod ({ cls := "CrumbPicturesModel", name := "mixCells", desc := "(J)J" } : Jvm.MethodName)) ∈ lw_tbl := lw_at lw_m9 102 rfl
theorem q2128 : (Jvm.Cond.instanceMethod ({ cls := "CrumbPicturesModel", name := "mixCells", desc := "(J)J" } : Jvm.MethodName)) ∈ lw_all := lw_g (lw_at lw_m9 103 rfl) rfl
theorem q2129 : (Jvm.Cond.code ({ cls := "CrumbPicturesModel", name := "mixCells", desc := "(J)J" } : Jvm.MethodName) prog_11_method_102_code (6 : Nat) (Option.some Jvm.ClassFile.FieldType.long)) ∈ lw_all := lw_g (lw_at lw_m9 104 rfl) rfl
theorem q2130 : (Jvm.Cond.methodLink "CrumbPicturesModel" (262 : Nat) ({ cls := "CrumbPicturesModel", name := "mixCrumbs", desc := "(J)J" } : Jvm.MethodName)) ∈ lw_all := lw_g (lw_at lw_m9 105 rfl) rfl
theorem q2131 : (Jvm.Cond.privateMethod ({ cls := "CrumbPicturesModel", name := "mixCrumbs", desc := "(J)J" } : Jvm.MethodName)) ∈ lw_tbl := lw_at lw_m9 106 rfl
theorem q2132 : (Jvm.Cond.instanceMethod ({ cls := "CrumbPicturesModel", name := "mixCrumbs", desc := "(J)J" } : Jvm.MethodName)) ∈ lw_all := lw_g (lw_at lw_m9 107 rfl) rfl
theorem q2133 : (Jvm.Cond.code ({ cls := "CrumbPicturesModel", name := "mixCrumbs", desc := "(J)J" } : Jvm.MethodName) prog_11_method_103_code (8 : Nat) (Option.some Jvm.ClassFile.FieldType.long)) ∈ lw_all := lw_g (lw_at lw_m9 108 rfl) rfl
theorem q2134 : (Jvm.Cond.methodLink "CrumbPicturesModel" (265 : Nat) ({ cls := "java/lang/Double", name := "doubleToLongBits", desc := "(D)J" } : Jvm.MethodName)) ∈ lw_all := lw_g (lw_at lw_m9 109 rfl) rfl
theorem q2165 : (Jvm.Cond.castable "CrumbPicturesModel" "java/lang/Object") ∈ lw_tbl := lw_at lw_m9 140 rfl
theorem in_X9 : ∀ w ∈ wsX90, w ∈ lw_all := lw_in wsX90 [1688, 1690, 1692, 1694, 1696, 1698, 1700, 1702, 1704, 1706, 1708, 1710, 1712, 1714, 1716, 1718, 1720, 1722, 1724, 1726, 1728] (by decide +kernel) (by decide +kernel)
