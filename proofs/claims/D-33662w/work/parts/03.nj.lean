theorem q713 : (Jvm.Cond.sameMethod "[B" "java/lang/Object" "clone" "()Ljava/lang/Object;") ∈ lw_all := lw_g (lw_at lw_m3 128 rfl) rfl
set_option maxRecDepth 100000
theorem q716 : (Jvm.Cond.selects "[B" ({ cls := "[B", name := "clone", desc := "()Ljava/lang/Object;" } : Jvm.MethodName) ({ cls := "java/lang/Object", name := "clone", desc := "()Ljava/lang/Object;" } : Jvm.MethodName)) ∈ lw_all := lw_g (lw_at lw_m3 131 rfl) rfl
theorem q717 : (Jvm.Cond.castable "[B" "java/lang/Cloneable") ∈ lw_tbl := lw_at lw_m3 132 rfl
theorem q2181 : (Jvm.Cond.castable "[B" "java/lang/Object") ∈ lw_tbl := lw_at lw_m9 156 rfl
theorem q2177 : (Jvm.Cond.castable "[I" "java/lang/Object") ∈ lw_tbl := lw_at lw_m9 152 rfl
set_option maxRecDepth 100000
theorem q1141 : (Jvm.Cond.sameMethod "[J" "java/lang/Object" "clone" "()Ljava/lang/Object;") ∈ lw_all := lw_g (lw_at lw_m5 76 rfl) rfl
set_option maxRecDepth 100000
theorem q1142 : (Jvm.Cond.selects "[J" ({ cls := "[J", name := "clone", desc := "()Ljava/lang/Object;" } : Jvm.MethodName) ({ cls := "java/lang/Object", name := "clone", desc := "()Ljava/lang/Object;" } : Jvm.MethodName)) ∈ lw_all := lw_g (lw_at lw_m5 77 rfl) rfl
theorem q1143 : (Jvm.Cond.castable "[J" "java/lang/Cloneable") ∈ lw_tbl := lw_at lw_m5 78 rfl
theorem q2180 : (Jvm.Cond.castable "[J" "java/lang/Object") ∈ lw_tbl := lw_at lw_m9 155 rfl
theorem q2178 : (Jvm.Cond.castable "[LCrumbPictures$Order;" "java/lang/Object") ∈ lw_tbl := lw_at lw_m9 153 rfl
set_option maxRecDepth 100000
theorem q2174 : (Jvm.Cond.sameMethod "[Ljava/lang/Object;" "java/lang/Object" "getClass" "()Ljava/lang/Class;") ∈ lw_all := lw_g (lw_at lw_m9 149 rfl) rfl
set_option maxRecDepth 100000
theorem q2175 : (Jvm.Cond.selects "[Ljava/lang/Object;" ({ cls := "java/lang/Object", name := "getClass", desc := "()Ljava/lang/Class;" } : Jvm.MethodName) ({ cls := "java/lang/Object", name := "getClass", desc := "()Ljava/lang/Class;" } : Jvm.MethodName)) ∈ lw_all := lw_g (lw_at lw_m9 150 rfl) rfl
theorem q2182 : (Jvm.Cond.castable "[Ljava/lang/Object;" "java/lang/Object") ∈ lw_tbl := lw_at lw_m9 157 rfl
theorem q2179 : (Jvm.Cond.castable "[Z" "java/lang/Object") ∈ lw_tbl := lw_at lw_m9 154 rfl
set_option maxRecDepth 100000
theorem q117 : (Jvm.Cond.initialized "java/lang/Integer$IntegerCache") ∈ lw_all := lw_g (lw_at lw_m1 12 rfl) rfl
set_option maxRecDepth 100000
theorem q323 : (Jvm.Cond.laysStatic "java/lang/Integer$IntegerCache" "high" "I") ∈ lw_tbl := lw_at lw_m1 218 rfl
theorem q325 : (Jvm.Cond.laysStatic "java/lang/Integer$IntegerCache" "cache" "[Ljava/lang/Integer;") ∈ lw_tbl := lw_at lw_m1 220 rfl
theorem q135 : (Jvm.Cond.initialized "java/lang/System") ∈ lw_all := lw_g (lw_at lw_m1 30 rfl) rfl
set_option maxRecDepth 100000
theorem q559 : (Jvm.Cond.static ({ cls := "java/lang/System", name := "arraycopy", desc := "(Ljava/lang/Object;ILjava/lang/Object;II)V" } : Jvm.MethodName)) ∈ lw_all := lw_g (lw_at lw_m2 214 rfl) rfl
theorem q560 : (Jvm.Cond.native ({ cls := "java/lang/System", name := "arraycopy", desc := "(Ljava/lang/Object;ILjava/lang/Object;II)V" } : Jvm.MethodName)) ∈ lw_all := lw_g (lw_at lw_m2 215 rfl) rfl
theorem q230 : (Jvm.Cond.interfaceMethod "java/util/Iterator" "java/util/Iterator" "hasNext" "()Z") ∈ lw_tbl := lw_at lw_m1 125 rfl
set_option maxRecDepth 100000
theorem q231 : (Jvm.Cond.declares ({ cls := "java/util/Iterator", name := "hasNext", desc := "()Z" } : Jvm.MethodName)) ∈ lw_tbl := lw_at lw_m1 126 rfl
theorem q240 : (Jvm.Cond.interfaceMethod "java/util/Iterator" "java/util/Iterator" "next" "()Ljava/lang/Object;") ∈ lw_tbl := lw_at lw_m1 135 rfl
theorem q241 : (Jvm.Cond.declares ({ cls := "java/util/Iterator", name := "next", desc := "()Ljava/lang/Object;" } : Jvm.MethodName)) ∈ lw_tbl := lw_at lw_m1 136 rfl
theorem q175 : (Jvm.Cond.arrayClass Jvm.ClassFile.FieldType.int) ∈ lw_all := lw_g (lw_at lw_m1 70 rfl) rfl
set_option maxRecDepth 100000
theorem q177 : (Jvm.Cond.arrayOver (Jvm.ClassFile.FieldType.object "CrumbPictures$Order")) ∈ lw_tbl := lw_at lw_m1 72 rfl
theorem q389 : (Jvm.Cond.arrayClass Jvm.ClassFile.FieldType.boolean) ∈ lw_all := lw_g (lw_at lw_m2 44 rfl) rfl
theorem q419 : (Jvm.Cond.arrayClass Jvm.ClassFile.FieldType.long) ∈ lw_all := lw_g (lw_at lw_m2 74 rfl) rfl
theorem q493 : (Jvm.Cond.arrayClass Jvm.ClassFile.FieldType.byte) ∈ lw_all := lw_g (lw_at lw_m2 148 rfl) rfl
theorem q624 : (Jvm.Cond.arrayOver (Jvm.ClassFile.FieldType.object "java/lang/Object")) ∈ lw_tbl := lw_at lw_m3 39 rfl
/-! java/lang/Throwable -/
set_option maxRecDepth 100000
def RJ0 : String := "java/lang/Throwable"
def TJ0 : u_T := fun k => match k with
  | 0 => ("java/lang/Throwable", "cause", "Ljava/lang/Throwable;", false)
  | 1 => ("java/lang/Throwable", "stackTrace", "[Ljava/lang/StackTraceElement;", false)
  | 2 => ("java/lang/Throwable", "suppressedExceptions", "Ljava/util/List;", false)
  | 3 => ("java/lang/Throwable", "detailMessage", "Ljava/lang/String;", false)
  | _ => ("java/lang/Throwable", "backtrace", "Ljava/lang/Object;", false)
def tyJ0 : Nat → FieldType := fun k => match k with
  | 0 => .object "java/lang/Throwable"
  | 1 => .array (.object "java/lang/StackTraceElement")
  | 2 => .object "java/util/List"
  | 3 => .object "java/lang/String"
  | _ => .object "java/lang/Object"
abbrev wsJ00 : List Cond := u_ws RJ0 TJ0 5
theorem nmJ0 : ∀ a, a < 5 → ∀ b, b < 5 → a ≠ b → (TJ0 a).2.1 ≠ (TJ0 b).2.1 := by decide +kernel
theorem tyJ0_ok : ∀ k, k < 5 → parseFieldDescriptor (TJ0 k).2.2.1 = some (tyJ0 k) := by decide +kernel
abbrev cJ0_init : ByteArray := prog_36_method_1_code
def yJ0_init : MethodName := ⟨RJ0, "<init>", "()V"⟩
def dkwJ0_init_1 : List UInt8 := [182, 0, 27, 87, 177]
abbrev dktJ0_init_1 : List UInt8 := dkwJ0_init_1 ++ []
def dkwJ0_init_0 : List UInt8 := [42, 183, 0, 1, 42, 42, 181, 0, 7, 42, 178, 0, 13, 181, 0, 17, 42, 178, 0, 20, 181, 0, 24, 42]
abbrev dktJ0_init_0 : List UInt8 := dkwJ0_init_0 ++ dktJ0_init_1
theorem dksJ0_init_0 : cJ0_init.data.toList.drop 0 = dktJ0_init_0 := by decide +kernel
theorem dksJ0_init_1 : cJ0_init.data.toList.drop 24 = dktJ0_init_1 := dk_seg dksJ0_init_0 24 rfl rfl
theorem dJ0_init_0 : decode cJ0_init 0 = .ok (.aload_n 0, 1) := dk_42 (dk_at dksJ0_init_0 0 rfl rfl)
theorem dJ0_init_1 : decode cJ0_init 1 = .ok (.invokespecial 1, 3) := dk_183 0 1 (dk_at dksJ0_init_0 1 rfl rfl)
theorem dJ0_init_4 : decode cJ0_init 4 = .ok (.aload_n 0, 1) := dk_42 (dk_at dksJ0_init_0 4 rfl rfl)
theorem dJ0_init_5 : decode cJ0_init 5 = .ok (.aload_n 0, 1) := dk_42 (dk_at dksJ0_init_0 5 rfl rfl)
theorem dJ0_init_6 : decode cJ0_init 6 = .ok (.putfield 7, 3) := dk_181 0 7 (dk_at dksJ0_init_0 6 rfl rfl)
theorem dJ0_init_9 : decode cJ0_init 9 = .ok (.aload_n 0, 1) := dk_42 (dk_at dksJ0_init_0 9 rfl rfl)
theorem dJ0_init_10 : decode cJ0_init 10 = .ok (.getstatic 13, 3) := dk_178 0 13 (dk_at dksJ0_init_0 10 rfl rfl)
theorem dJ0_init_13 : decode cJ0_init 13 = .ok (.putfield 17, 3) := dk_181 0 17 (dk_at dksJ0_init_0 13 rfl rfl)
theorem dJ0_init_16 : decode cJ0_init 16 = .ok (.aload_n 0, 1) := dk_42 (dk_at dksJ0_init_0 16 rfl rfl)
theorem dJ0_init_17 : decode cJ0_init 17 = .ok (.getstatic 20, 3) := dk_178 0 20 (dk_at dksJ0_init_0 17 rfl rfl)
theorem dJ0_init_20 : decode cJ0_init 20 = .ok (.putfield 24, 3) := dk_181 0 24 (dk_at dksJ0_init_0 20 rfl rfl)
theorem dJ0_init_23 : decode cJ0_init 23 = .ok (.aload_n 0, 1) := dk_42 (dk_at dksJ0_init_0 23 rfl rfl)
theorem dJ0_init_24 : decode cJ0_init 24 = .ok (.invokevirtual 27, 3) := dk_182 0 27 (dk_at dksJ0_init_1 0 rfl rfl)
theorem dJ0_init_27 : decode cJ0_init 27 = .ok (.pop, 1) := dk_87 (dk_at dksJ0_init_1 3 rfl rfl)
theorem dJ0_init_28 : decode cJ0_init 28 = .ok (.return_, 1) := dk_177 (dk_at dksJ0_init_1 4 rfl rfl)
abbrev cJ0_init_2 : ByteArray := prog_36_method_2_code
def yJ0_init_2 : MethodName := ⟨RJ0, "<init>", "(Ljava/lang/String;)V"⟩
def dkwJ0_init_2_1 : List UInt8 := [182, 0, 27, 87, 42, 43, 181, 0, 31, 177]
abbrev dktJ0_init_2_1 : List UInt8 := dkwJ0_init_2_1 ++ []
def dkwJ0_init_2_0 : List UInt8 := [42, 183, 0, 1, 42, 42, 181, 0, 7, 42, 178, 0, 13, 181, 0, 17, 42, 178, 0, 20, 181, 0, 24, 42]
abbrev dktJ0_init_2_0 : List UInt8 := dkwJ0_init_2_0 ++ dktJ0_init_2_1
theorem dksJ0_init_2_0 : cJ0_init_2.data.toList.drop 0 = dktJ0_init_2_0 := by decide +kernel
theorem dksJ0_init_2_1 : cJ0_init_2.data.toList.drop 24 = dktJ0_init_2_1 := dk_seg dksJ0_init_2_0 24 rfl rfl
theorem dJ0_init_2_0 : decode cJ0_init_2 0 = .ok (.aload_n 0, 1) := dk_42 (dk_at dksJ0_init_2_0 0 rfl rfl)
theorem dJ0_init_2_1 : decode cJ0_init_2 1 = .ok (.invokespecial 1, 3) := dk_183 0 1 (dk_at dksJ0_init_2_0 1 rfl rfl)
theorem dJ0_init_2_4 : decode cJ0_init_2 4 = .ok (.aload_n 0, 1) := dk_42 (dk_at dksJ0_init_2_0 4 rfl rfl)
theorem dJ0_init_2_5 : decode cJ0_init_2 5 = .ok (.aload_n 0, 1) := dk_42 (dk_at dksJ0_init_2_0 5 rfl rfl)
theorem dJ0_init_2_6 : decode cJ0_init_2 6 = .ok (.putfield 7, 3) := dk_181 0 7 (dk_at dksJ0_init_2_0 6 rfl rfl)
theorem dJ0_init_2_9 : decode cJ0_init_2 9 = .ok (.aload_n 0, 1) := dk_42 (dk_at dksJ0_init_2_0 9 rfl rfl)
theorem dJ0_init_2_10 : decode cJ0_init_2 10 = .ok (.getstatic 13, 3) := dk_178 0 13 (dk_at dksJ0_init_2_0 10 rfl rfl)
theorem dJ0_init_2_13 : decode cJ0_init_2 13 = .ok (.putfield 17, 3) := dk_181 0 17 (dk_at dksJ0_init_2_0 13 rfl rfl)
theorem dJ0_init_2_16 : decode cJ0_init_2 16 = .ok (.aload_n 0, 1) := dk_42 (dk_at dksJ0_init_2_0 16 rfl rfl)
theorem dJ0_init_2_17 : decode cJ0_init_2 17 = .ok (.getstatic 20, 3) := dk_178 0 20 (dk_at dksJ0_init_2_0 17 rfl rfl)
theorem dJ0_init_2_20 : decode cJ0_init_2 20 = .ok (.putfield 24, 3) := dk_181 0 24 (dk_at dksJ0_init_2_0 20 rfl rfl)
theorem dJ0_init_2_23 : decode cJ0_init_2 23 = .ok (.aload_n 0, 1) := dk_42 (dk_at dksJ0_init_2_0 23 rfl rfl)
theorem dJ0_init_2_24 : decode cJ0_init_2 24 = .ok (.invokevirtual 27, 3) := dk_182 0 27 (dk_at dksJ0_init_2_1 0 rfl rfl)
theorem dJ0_init_2_27 : decode cJ0_init_2 27 = .ok (.pop, 1) := dk_87 (dk_at dksJ0_init_2_1 3 rfl rfl)
theorem dJ0_init_2_28 : decode cJ0_init_2 28 = .ok (.aload_n 0, 1) := dk_42 (dk_at dksJ0_init_2_1 4 rfl rfl)
theorem dJ0_init_2_29 : decode cJ0_init_2 29 = .ok (.aload_n 1, 1) := dk_43 (dk_at dksJ0_init_2_1 5 rfl rfl)
theorem dJ0_init_2_30 : decode cJ0_init_2 30 = .ok (.putfield 31, 3) := dk_181 0 31 (dk_at dksJ0_init_2_1 6 rfl rfl)
theorem dJ0_init_2_33 : decode cJ0_init_2 33 = .ok (.return_, 1) := dk_177 (dk_at dksJ0_init_2_1 9 rfl rfl)
theorem q111 : (Jvm.Cond.initialized "java/lang/Throwable") ∈ lw_all := lw_g (lw_at lw_m1 6 rfl) rfl
theorem q258 : (Jvm.Cond.declares ({ cls := "java/lang/Throwable", name := "<init>", desc := "()V" } : Jvm.MethodName)) ∈ lw_tbl := lw_at lw_m1 153 rfl
theorem q259 : (Jvm.Cond.declares ({ cls := "java/lang/Throwable", name := "<init>", desc := "(Ljava/lang/String;)V" } : Jvm.MethodName)) ∈ lw_tbl := lw_at lw_m1 154 rfl
theorem q263 : (Jvm.Cond.lays "java/lang/Throwable" "java/lang/Throwable" "cause" "Ljava/lang/Throwable;") ∈ lw_all := lw_g (lw_at lw_m1 158 rfl) rfl
theorem q265 : (Jvm.Cond.lays "java/lang/Throwable" "java/lang/Throwable" "stackTrace" "[Ljava/lang/StackTraceElement;") ∈ lw_all := lw_g (lw_at lw_m1 160 rfl) rfl
theorem q267 : (Jvm.Cond.lays "java/lang/Throwable" "java/lang/Throwable" "suppressedExceptions" "Ljava/util/List;") ∈ lw_all := lw_g (lw_at lw_m1 162 rfl) rfl
theorem q269 : (Jvm.Cond.lays "java/lang/Throwable" "java/lang/Throwable" "detailMessage" "Ljava/lang/String;") ∈ lw_all := lw_g (lw_at lw_m1 164 rfl) rfl
theorem q271 : (Jvm.Cond.lays "java/lang/Throwable" "java/lang/Throwable" "backtrace" "Ljava/lang/Object;") ∈ lw_all := lw_g (lw_at lw_m1 166 rfl) rfl
theorem q272 : (Jvm.Cond.fieldLink "java/lang/Throwable" (198 : Nat) "java/lang/Throwable" "backtrace" "Ljava/lang/Object;") ∈ lw_all := lw_g (lw_at lw_m1 167 rfl) rfl
theorem q273 : (Jvm.Cond.superclass "java/lang/Throwable" "java/lang/Object") ∈ lw_all := lw_g (lw_at lw_m1 168 rfl) rfl
theorem q274 : (Jvm.Cond.instanceMethod ({ cls := "java/lang/Throwable", name := "<init>", desc := "()V" } : Jvm.MethodName)) ∈ lw_all := lw_g (lw_at lw_m1 169 rfl) rfl
theorem q275 : (Jvm.Cond.code ({ cls := "java/lang/Throwable", name := "<init>", desc := "()V" } : Jvm.MethodName) prog_36_method_1_code (1 : Nat) (Option.none : Option Jvm.ClassFile.FieldType)) ∈ lw_all := lw_g (lw_at lw_m1 170 rfl) rfl
theorem q276 : (Jvm.Cond.methodLink "java/lang/Throwable" (1 : Nat) ({ cls := "java/lang/Object", name := "<init>", desc := "()V" } : Jvm.MethodName)) ∈ lw_all := lw_g (lw_at lw_m1 171 rfl) rfl
theorem q277 : (Jvm.Cond.fieldLink "java/lang/Throwable" (13 : Nat) "java/lang/Throwable" "UNASSIGNED_STACK" "[Ljava/lang/StackTraceElement;") ∈ lw_all := lw_g (lw_at lw_m1 172 rfl) rfl
theorem q278 : (Jvm.Cond.laysStatic "java/lang/Throwable" "UNASSIGNED_STACK" "[Ljava/lang/StackTraceElement;") ∈ lw_tbl := lw_at lw_m1 173 rfl
theorem q279 : (Jvm.Cond.fieldLink "java/lang/Throwable" (20 : Nat) "java/lang/Throwable" "SUPPRESSED_SENTINEL" "Ljava/util/List;") ∈ lw_all := lw_g (lw_at lw_m1 174 rfl) rfl
theorem q280 : (Jvm.Cond.laysStatic "java/lang/Throwable" "SUPPRESSED_SENTINEL" "Ljava/util/List;") ∈ lw_tbl := lw_at lw_m1 175 rfl
theorem q281 : (Jvm.Cond.methodLink "java/lang/Throwable" (27 : Nat) ({ cls := "java/lang/Throwable", name := "fillInStackTrace", desc := "()Ljava/lang/Throwable;" } : Jvm.MethodName)) ∈ lw_all := lw_g (lw_at lw_m1 176 rfl) rfl
theorem q282 : (Jvm.Cond.instanceMethod ({ cls := "java/lang/Throwable", name := "fillInStackTrace", desc := "()Ljava/lang/Throwable;" } : Jvm.MethodName)) ∈ lw_all := lw_g (lw_at lw_m1 177 rfl) rfl
theorem q283 : (Jvm.Cond.sameMethod "java/lang/Throwable" "java/lang/Throwable" "fillInStackTrace" "()Ljava/lang/Throwable;") ∈ lw_all := lw_g (lw_at lw_m1 178 rfl) rfl
theorem q289 : (Jvm.Cond.codeSync ({ cls := "java/lang/Throwable", name := "fillInStackTrace", desc := "()Ljava/lang/Throwable;" } : Jvm.MethodName) prog_36_method_18_code (1 : Nat) (Option.some (Jvm.ClassFile.FieldType.object "java/lang/Throwable"))) ∈ lw_all := lw_g (lw_at lw_m1 184 rfl) rfl
theorem q290 : (Jvm.Cond.methodLink "java/lang/Throwable" (202 : Nat) ({ cls := "java/lang/Throwable", name := "fillInStackTrace", desc := "(I)Ljava/lang/Throwable;" } : Jvm.MethodName)) ∈ lw_all := lw_g (lw_at lw_m1 185 rfl) rfl
theorem q291 : (Jvm.Cond.privateMethod ({ cls := "java/lang/Throwable", name := "fillInStackTrace", desc := "(I)Ljava/lang/Throwable;" } : Jvm.MethodName)) ∈ lw_tbl := lw_at lw_m1 186 rfl
theorem q292 : (Jvm.Cond.instanceMethod ({ cls := "java/lang/Throwable", name := "fillInStackTrace", desc := "(I)Ljava/lang/Throwable;" } : Jvm.MethodName)) ∈ lw_all := lw_g (lw_at lw_m1 187 rfl) rfl
theorem q293 : (Jvm.Cond.instantiable "java/lang/Throwable" (6 : Nat)) ∈ lw_all := lw_g (lw_at lw_m1 188 rfl) rfl
theorem q294 : (Jvm.Cond.native ({ cls := "java/lang/Throwable", name := "fillInStackTrace", desc := "(I)Ljava/lang/Throwable;" } : Jvm.MethodName)) ∈ lw_all := lw_g (lw_at lw_m1 189 rfl) rfl
theorem q305 : (Jvm.Cond.fieldLink "java/lang/Throwable" (198 : Nat) "java/lang/Throwable" "backtrace" "Ljava/lang/Object;") ∈ lw_all := lw_g (lw_at lw_m1 200 rfl) rfl
theorem q306 : (Jvm.Cond.fieldLink "java/lang/Throwable" (31 : Nat) "java/lang/Throwable" "detailMessage" "Ljava/lang/String;") ∈ lw_all := lw_g (lw_at lw_m1 201 rfl) rfl
theorem q307 : (Jvm.Cond.fieldLink "java/lang/Throwable" (7 : Nat) "java/lang/Throwable" "cause" "Ljava/lang/Throwable;") ∈ lw_all := lw_g (lw_at lw_m1 202 rfl) rfl
theorem q308 : (Jvm.Cond.fieldLink "java/lang/Throwable" (17 : Nat) "java/lang/Throwable" "stackTrace" "[Ljava/lang/StackTraceElement;") ∈ lw_all := lw_g (lw_at lw_m1 203 rfl) rfl
theorem q309 : (Jvm.Cond.fieldLink "java/lang/Throwable" (24 : Nat) "java/lang/Throwable" "suppressedExceptions" "Ljava/util/List;") ∈ lw_all := lw_g (lw_at lw_m1 204 rfl) rfl
theorem q310 : (Jvm.Cond.soleField "java/lang/Throwable" "backtrace") ∈ lw_all := lw_g (lw_at lw_m1 205 rfl) rfl
theorem q311 : (Jvm.Cond.soleField "java/lang/Throwable" "detailMessage") ∈ lw_all := lw_g (lw_at lw_m1 206 rfl) rfl
theorem q312 : (Jvm.Cond.soleField "java/lang/Throwable" "cause") ∈ lw_all := lw_g (lw_at lw_m1 207 rfl) rfl
theorem q313 : (Jvm.Cond.soleField "java/lang/Throwable" "stackTrace") ∈ lw_all := lw_g (lw_at lw_m1 208 rfl) rfl
theorem q315 : (Jvm.Cond.soleField "java/lang/Throwable" "depth") ∈ lw_all := lw_g (lw_at lw_m1 210 rfl) rfl
theorem q316 : (Jvm.Cond.soleField "java/lang/Throwable" "suppressedExceptions") ∈ lw_all := lw_g (lw_at lw_m1 211 rfl) rfl
theorem q872 : (Jvm.Cond.instanceMethod ({ cls := "java/lang/Throwable", name := "<init>", desc := "(Ljava/lang/String;)V" } : Jvm.MethodName)) ∈ lw_all := lw_g (lw_at lw_m4 47 rfl) rfl
theorem q873 : (Jvm.Cond.code ({ cls := "java/lang/Throwable", name := "<init>", desc := "(Ljava/lang/String;)V" } : Jvm.MethodName) prog_36_method_2_code (2 : Nat) (Option.none : Option Jvm.ClassFile.FieldType)) ∈ lw_all := lw_g (lw_at lw_m4 48 rfl) rfl
theorem q2135 : (Jvm.Cond.sameMethod "java/lang/Throwable" "java/lang/Throwable" "fillInStackTrace" "(I)Ljava/lang/Throwable;") ∈ lw_all := lw_g (lw_at lw_m9 110 rfl) rfl
theorem q2173 : (Jvm.Cond.castable "java/lang/Throwable" "java/lang/Object") ∈ lw_tbl := lw_at lw_m9 148 rfl
theorem in_J0 : ∀ w ∈ wsJ00, w ∈ lw_all := lw_in wsJ00 [263, 265, 267, 269, 271] (by decide +kernel) (by decide +kernel)
/-! java/lang/Exception -/
set_option maxRecDepth 100000
def RJ1 : String := "java/lang/Exception"
abbrev cJ1_init : ByteArray := prog_20_method_1_code
def yJ1_init : MethodName := ⟨RJ1, "<init>", "()V"⟩
theorem dJ1_init_0 : decode cJ1_init 0 = .ok (.aload_n 0, 1) := by decide +kernel
theorem dJ1_init_1 : decode cJ1_init 1 = .ok (.invokespecial 1, 3) := by decide +kernel
theorem dJ1_init_4 : decode cJ1_init 4 = .ok (.return_, 1) := by decide +kernel
abbrev cJ1_init_2 : ByteArray := prog_20_method_2_code
def yJ1_init_2 : MethodName := ⟨RJ1, "<init>", "(Ljava/lang/String;)V"⟩
def dkwJ1_init_2_0 : List UInt8 := [42, 43, 183, 0, 7, 177]
abbrev dktJ1_init_2_0 : List UInt8 := dkwJ1_init_2_0 ++ []
theorem dksJ1_init_2_0 : cJ1_init_2.data.toList.drop 0 = dktJ1_init_2_0 := by decide +kernel
theorem dJ1_init_2_0 : decode cJ1_init_2 0 = .ok (.aload_n 0, 1) := dk_42 (dk_at dksJ1_init_2_0 0 rfl rfl)
theorem dJ1_init_2_1 : decode cJ1_init_2 1 = .ok (.aload_n 1, 1) := dk_43 (dk_at dksJ1_init_2_0 1 rfl rfl)
theorem dJ1_init_2_2 : decode cJ1_init_2 2 = .ok (.invokespecial 7, 3) := dk_183 0 7 (dk_at dksJ1_init_2_0 2 rfl rfl)
theorem dJ1_init_2_5 : decode cJ1_init_2 5 = .ok (.return_, 1) := dk_177 (dk_at dksJ1_init_2_0 5 rfl rfl)
theorem q112 : (Jvm.Cond.initialized "java/lang/Exception") ∈ lw_all := lw_g (lw_at lw_m1 7 rfl) rfl
theorem q256 : (Jvm.Cond.declares ({ cls := "java/lang/Exception", name := "<init>", desc := "()V" } : Jvm.MethodName)) ∈ lw_tbl := lw_at lw_m1 151 rfl
theorem q257 : (Jvm.Cond.declares ({ cls := "java/lang/Exception", name := "<init>", desc := "(Ljava/lang/String;)V" } : Jvm.MethodName)) ∈ lw_tbl := lw_at lw_m1 152 rfl
theorem q302 : (Jvm.Cond.instanceMethod ({ cls := "java/lang/Exception", name := "<init>", desc := "()V" } : Jvm.MethodName)) ∈ lw_all := lw_g (lw_at lw_m1 197 rfl) rfl
theorem q303 : (Jvm.Cond.code ({ cls := "java/lang/Exception", name := "<init>", desc := "()V" } : Jvm.MethodName) prog_20_method_1_code (1 : Nat) (Option.none : Option Jvm.ClassFile.FieldType)) ∈ lw_all := lw_g (lw_at lw_m1 198 rfl) rfl
theorem q304 : (Jvm.Cond.methodLink "java/lang/Exception" (1 : Nat) ({ cls := "java/lang/Throwable", name := "<init>", desc := "()V" } : Jvm.MethodName)) ∈ lw_all := lw_g (lw_at lw_m1 199 rfl) rfl
theorem q869 : (Jvm.Cond.instanceMethod ({ cls := "java/lang/Exception", name := "<init>", desc := "(Ljava/lang/String;)V" } : Jvm.MethodName)) ∈ lw_all := lw_g (lw_at lw_m4 44 rfl) rfl
theorem q870 : (Jvm.Cond.code ({ cls := "java/lang/Exception", name := "<init>", desc := "(Ljava/lang/String;)V" } : Jvm.MethodName) prog_20_method_2_code (2 : Nat) (Option.none : Option Jvm.ClassFile.FieldType)) ∈ lw_all := lw_g (lw_at lw_m4 45 rfl) rfl
theorem q871 : (Jvm.Cond.methodLink "java/lang/Exception" (7 : Nat) ({ cls := "java/lang/Throwable", name := "<init>", desc := "(Ljava/lang/String;)V" } : Jvm.MethodName)) ∈ lw_all := lw_g (lw_at lw_m4 46 rfl) rfl
/-! java/lang/RuntimeException -/
set_option maxRecDepth 100000
def RJ2 : String := "java/lang/RuntimeException"
abbrev cJ2_init : ByteArray := prog_29_method_1_code
def yJ2_init : MethodName := ⟨RJ2, "<init>", "()V"⟩
theorem dJ2_init_0 : decode cJ2_init 0 = .ok (.aload_n 0, 1) := by decide +kernel
theorem dJ2_init_1 : decode cJ2_init 1 = .ok (.invokespecial 1, 3) := by decide +kernel
theorem dJ2_init_4 : decode cJ2_init 4 = .ok (.return_, 1) := by decide +kernel
abbrev cJ2_init_2 : ByteArray := prog_29_method_2_code
def yJ2_init_2 : MethodName := ⟨RJ2, "<init>", "(Ljava/lang/String;)V"⟩
def dkwJ2_init_2_0 : List UInt8 := [42, 43, 183, 0, 7, 177]
abbrev dktJ2_init_2_0 : List UInt8 := dkwJ2_init_2_0 ++ []
theorem dksJ2_init_2_0 : cJ2_init_2.data.toList.drop 0 = dktJ2_init_2_0 := by decide +kernel
theorem dJ2_init_2_0 : decode cJ2_init_2 0 = .ok (.aload_n 0, 1) := dk_42 (dk_at dksJ2_init_2_0 0 rfl rfl)
theorem dJ2_init_2_1 : decode cJ2_init_2 1 = .ok (.aload_n 1, 1) := dk_43 (dk_at dksJ2_init_2_0 1 rfl rfl)
theorem dJ2_init_2_2 : decode cJ2_init_2 2 = .ok (.invokespecial 7, 3) := dk_183 0 7 (dk_at dksJ2_init_2_0 2 rfl rfl)
theorem dJ2_init_2_5 : decode cJ2_init_2 5 = .ok (.return_, 1) := dk_177 (dk_at dksJ2_init_2_0 5 rfl rfl)
theorem q113 : (Jvm.Cond.initialized "java/lang/RuntimeException") ∈ lw_all := lw_g (lw_at lw_m1 8 rfl) rfl
theorem q254 : (Jvm.Cond.declares ({ cls := "java/lang/RuntimeException", name := "<init>", desc := "()V" } : Jvm.MethodName)) ∈ lw_tbl := lw_at lw_m1 149 rfl
theorem q255 : (Jvm.Cond.declares ({ cls := "java/lang/RuntimeException", name := "<init>", desc := "(Ljava/lang/String;)V" } : Jvm.MethodName)) ∈ lw_tbl := lw_at lw_m1 150 rfl
theorem q299 : (Jvm.Cond.instanceMethod ({ cls := "java/lang/RuntimeException", name := "<init>", desc := "()V" } : Jvm.MethodName)) ∈ lw_all := lw_g (lw_at lw_m1 194 rfl) rfl
theorem q300 : (Jvm.Cond.code ({ cls := "java/lang/RuntimeException", name := "<init>", desc := "()V" } : Jvm.MethodName) prog_29_method_1_code (1 : Nat) (Option.none : Option Jvm.ClassFile.FieldType)) ∈ lw_all := lw_g (lw_at lw_m1 195 rfl) rfl
theorem q301 : (Jvm.Cond.methodLink "java/lang/RuntimeException" (1 : Nat) ({ cls := "java/lang/Exception", name := "<init>", desc := "()V" } : Jvm.MethodName)) ∈ lw_all := lw_g (lw_at lw_m1 196 rfl) rfl
theorem q866 : (Jvm.Cond.instanceMethod ({ cls := "java/lang/RuntimeException", name := "<init>", desc := "(Ljava/lang/String;)V" } : Jvm.MethodName)) ∈ lw_all := lw_g (lw_at lw_m4 41 rfl) rfl
theorem q867 : (Jvm.Cond.code ({ cls := "java/lang/RuntimeException", name := "<init>", desc := "(Ljava/lang/String;)V" } : Jvm.MethodName) prog_29_method_2_code (2 : Nat) (Option.none : Option Jvm.ClassFile.FieldType)) ∈ lw_all := lw_g (lw_at lw_m4 42 rfl) rfl
theorem q868 : (Jvm.Cond.methodLink "java/lang/RuntimeException" (7 : Nat) ({ cls := "java/lang/Exception", name := "<init>", desc := "(Ljava/lang/String;)V" } : Jvm.MethodName)) ∈ lw_all := lw_g (lw_at lw_m4 43 rfl) rfl
/-! java/util/NoSuchElementException -/
set_option maxRecDepth 100000
def RJ3 : String := "java/util/NoSuchElementException"
def TJ3 : u_T := fun k => match k with
  | 0 => ("java/lang/Throwable", "cause", "Ljava/lang/Throwable;", false)
  | 1 => ("java/lang/Throwable", "stackTrace", "[Ljava/lang/StackTraceElement;", false)
  | 2 => ("java/lang/Throwable", "suppressedExceptions", "Ljava/util/List;", false)
  | 3 => ("java/lang/Throwable", "detailMessage", "Ljava/lang/String;", false)
  | 4 => ("java/lang/Throwable", "backtrace", "Ljava/lang/Object;", false)
  | _ => ("java/lang/Throwable", "depth", "I", false)
def tyJ3 : Nat → FieldType := fun k => match k with
  | 0 => .object "java/lang/Throwable"
  | 1 => .array (.object "java/lang/StackTraceElement")
  | 2 => .object "java/util/List"
  | 3 => .object "java/lang/String"
  | 4 => .object "java/lang/Object"
  | _ => .int
abbrev wsJ30 : List Cond := u_ws RJ3 TJ3 6
theorem nmJ3 : ∀ a, a < 6 → ∀ b, b < 6 → a ≠ b → (TJ3 a).2.1 ≠ (TJ3 b).2.1 := by decide +kernel
theorem tyJ3_ok : ∀ k, k < 6 → parseFieldDescriptor (TJ3 k).2.2.1 = some (tyJ3 k) := by decide +kernel
abbrev cJ3_init : ByteArray := prog_47_method_1_code
def yJ3_init : MethodName := ⟨RJ3, "<init>", "()V"⟩
theorem dJ3_init_0 : decode cJ3_init 0 = .ok (.aload_n 0, 1) := by decide +kernel
theorem dJ3_init_1 : decode cJ3_init 1 = .ok (.invokespecial 1, 3) := by decide +kernel
theorem dJ3_init_4 : decode cJ3_init 4 = .ok (.return_, 1) := by decide +kernel
theorem q114 : (Jvm.Cond.initialized "java/util/NoSuchElementException") ∈ lw_all := lw_g (lw_at lw_m1 9 rfl) rfl
theorem q252 : (Jvm.Cond.instantiable "java/util/NoSuchElementException" (6 : Nat)) ∈ lw_all := lw_g (lw_at lw_m1 147 rfl) rfl
theorem q253 : (Jvm.Cond.castable "java/util/NoSuchElementException" "java/util/NoSuchElementException") ∈ lw_tbl := lw_at lw_m1 148 rfl
theorem q260 : (Jvm.Cond.selects "java/util/NoSuchElementException" ({ cls := "java/lang/Throwable", name := "fillInStackTrace", desc := "(I)Ljava/lang/Throwable;" } : Jvm.MethodName) ({ cls := "java/lang/Throwable", name := "fillInStackTrace", desc := "(I)Ljava/lang/Throwable;" } : Jvm.MethodName)) ∈ lw_all := lw_g (lw_at lw_m1 155 rfl) rfl
theorem q261 : (Jvm.Cond.selects "java/util/NoSuchElementException" ({ cls := "java/lang/Throwable", name := "fillInStackTrace", desc := "()Ljava/lang/Throwable;" } : Jvm.MethodName) ({ cls := "java/lang/Throwable", name := "fillInStackTrace", desc := "()Ljava/lang/Throwable;" } : Jvm.MethodName)) ∈ lw_all := lw_g (lw_at lw_m1 156 rfl) rfl
theorem q262 : (Jvm.Cond.lays "java/util/NoSuchElementException" "java/lang/Throwable" "cause" "Ljava/lang/Throwable;") ∈ lw_all := lw_g (lw_at lw_m1 157 rfl) rfl
theorem q264 : (Jvm.Cond.lays "java/util/NoSuchElementException" "java/lang/Throwable" "stackTrace" "[Ljava/lang/StackTraceElement;") ∈ lw_all := lw_g (lw_at lw_m1 159 rfl) rfl
theorem q266 : (Jvm.Cond.lays "java/util/NoSuchElementException" "java/lang/Throwable" "suppressedExceptions" "Ljava/util/List;") ∈ lw_all := lw_g (lw_at lw_m1 161 rfl) rfl
theorem q268 : (Jvm.Cond.lays "java/util/NoSuchElementException" "java/lang/Throwable" "detailMessage" "Ljava/lang/String;") ∈ lw_all := lw_g (lw_at lw_m1 163 rfl) rfl
theorem q270 : (Jvm.Cond.lays "java/util/NoSuchElementException" "java/lang/Throwable" "backtrace" "Ljava/lang/Object;") ∈ lw_all := lw_g (lw_at lw_m1 165 rfl) rfl
theorem q296 : (Jvm.Cond.instanceMethod ({ cls := "java/util/NoSuchElementException", name := "<init>", desc := "()V" } : Jvm.MethodName)) ∈ lw_all := lw_g (lw_at lw_m1 191 rfl) rfl
theorem q297 : (Jvm.Cond.code ({ cls := "java/util/NoSuchElementException", name := "<init>", desc := "()V" } : Jvm.MethodName) prog_47_method_1_code (1 : Nat) (Option.none : Option Jvm.ClassFile.FieldType)) ∈ lw_all := lw_g (lw_at lw_m1 192 rfl) rfl
theorem q298 : (Jvm.Cond.methodLink "java/util/NoSuchElementException" (1 : Nat) ({ cls := "java/lang/RuntimeException", name := "<init>", desc := "()V" } : Jvm.MethodName)) ∈ lw_all := lw_g (lw_at lw_m1 193 rfl) rfl
theorem q314 : (Jvm.Cond.lays "java/util/NoSuchElementException" "java/lang/Throwable" "depth" "I") ∈ lw_all := lw_g (lw_at lw_m1 209 rfl) rfl
theorem q317 : (Jvm.Cond.superclass "java/util/NoSuchElementException" "java/lang/RuntimeException") ∈ lw_all := lw_g (lw_at lw_m1 212 rfl) rfl
theorem q618 : (Jvm.Cond.selects "java/util/NoSuchElementException" ({ cls := "java/lang/Object", name := "getClass", desc := "()Ljava/lang/Class;" } : Jvm.MethodName) ({ cls := "java/lang/Object", name := "getClass", desc := "()Ljava/lang/Class;" } : Jvm.MethodName)) ∈ lw_all := lw_g (lw_at lw_m3 33 rfl) rfl
theorem q2157 : (Jvm.Cond.castable "java/util/NoSuchElementException" "java/lang/Object") ∈ lw_tbl := lw_at lw_m9 132 rfl
theorem in_J3 : ∀ w ∈ wsJ30, w ∈ lw_all := lw_in wsJ30 [262, 264, 266, 268, 270, 314] (by decide +kernel) (by decide +kernel)
/-! java/lang/Number -/
set_option maxRecDepth 100000
def RJ4 : String := "java/lang/Number"
abbrev cJ4_init : ByteArray := prog_28_method_1_code
def yJ4_init : MethodName := ⟨RJ4, "<init>", "()V"⟩
theorem dJ4_init_0 : decode cJ4_init 0 = .ok (.aload_n 0, 1) := by decide +kernel
theorem dJ4_init_1 : decode cJ4_init 1 = .ok (.invokespecial 1, 3) := by decide +kernel
theorem dJ4_init_4 : decode cJ4_init 4 = .ok (.return_, 1) := by decide +kernel
theorem q115 : (Jvm.Cond.initialized "java/lang/Number") ∈ lw_all := lw_g (lw_at lw_m1 10 rfl) rfl
theorem q332 : (Jvm.Cond.instanceMethod ({ cls := "java/lang/Number", name := "<init>", desc := "()V" } : Jvm.MethodName)) ∈ lw_all := lw_g (lw_at lw_m1 227 rfl) rfl
theorem q333 : (Jvm.Cond.code ({ cls := "java/lang/Number", name := "<init>", desc := "()V" } : Jvm.MethodName) prog_28_method_1_code (1 : Nat) (Option.none : Option Jvm.ClassFile.FieldType)) ∈ lw_all := lw_g (lw_at lw_m1 228 rfl) rfl
theorem q334 : (Jvm.Cond.methodLink "java/lang/Number" (1 : Nat) ({ cls := "java/lang/Object", name := "<init>", desc := "()V" } : Jvm.MethodName)) ∈ lw_all := lw_g (lw_at lw_m1 229 rfl) rfl
/-! java/lang/Integer -/
set_option maxRecDepth 100000
def RJ5 : String := "java/lang/Integer"
def TJ5 : u_T := fun k => match k with
  | _ => ("java/lang/Integer", "value", "I", true)
def tyJ5 : Nat → FieldType := fun k => match k with
  | _ => .int
abbrev wsJ50 : List Cond := u_ws RJ5 TJ5 1
theorem nmJ5 : ∀ a, a < 1 → ∀ b, b < 1 → a ≠ b → (TJ5 a).2.1 ≠ (TJ5 b).2.1 := by decide +kernel
theorem tyJ5_ok : ∀ k, k < 1 → parseFieldDescriptor (TJ5 k).2.2.1 = some (tyJ5 k) := by decide +kernel
abbrev cJ5_valueOf : ByteArray := prog_24_method_22_code
def yJ5_valueOf : MethodName := ⟨RJ5, "valueOf", "(I)Ljava/lang/Integer;"⟩
def dkwJ5_valueOf_1 : List UInt8 := [187, 0, 1, 89, 26, 183, 0, 199, 176]
abbrev dktJ5_valueOf_1 : List UInt8 := dkwJ5_valueOf_1 ++ []
def dkwJ5_valueOf_0 : List UInt8 := [26, 16, 128, 161, 0, 20, 26, 178, 0, 191, 163, 0, 13, 178, 0, 195, 26, 17, 0, 128, 96, 50, 176]
abbrev dktJ5_valueOf_0 : List UInt8 := dkwJ5_valueOf_0 ++ dktJ5_valueOf_1
theorem dksJ5_valueOf_0 : cJ5_valueOf.data.toList.drop 0 = dktJ5_valueOf_0 := by decide +kernel
theorem dksJ5_valueOf_1 : cJ5_valueOf.data.toList.drop 23 = dktJ5_valueOf_1 := dk_seg dksJ5_valueOf_0 23 rfl rfl
theorem dJ5_valueOf_0 : decode cJ5_valueOf 0 = .ok (.iload_n 0, 1) := dk_26 (dk_at dksJ5_valueOf_0 0 rfl rfl)
theorem dJ5_valueOf_1 : decode cJ5_valueOf 1 = .ok (.bipush (-128), 2) := dk_16 128 (dk_at dksJ5_valueOf_0 1 rfl rfl)
theorem dJ5_valueOf_3 : decode cJ5_valueOf 3 = .ok (.if_icmp .lt 20, 3) := dk_161 0 20 (dk_at dksJ5_valueOf_0 3 rfl rfl)
theorem dJ5_valueOf_6 : decode cJ5_valueOf 6 = .ok (.iload_n 0, 1) := dk_26 (dk_at dksJ5_valueOf_0 6 rfl rfl)
theorem dJ5_valueOf_7 : decode cJ5_valueOf 7 = .ok (.getstatic 191, 3) := dk_178 0 191 (dk_at dksJ5_valueOf_0 7 rfl rfl)
theorem dJ5_valueOf_10 : decode cJ5_valueOf 10 = .ok (.if_icmp .gt 13, 3) := dk_163 0 13 (dk_at dksJ5_valueOf_0 10 rfl rfl)
theorem dJ5_valueOf_13 : decode cJ5_valueOf 13 = .ok (.getstatic 195, 3) := dk_178 0 195 (dk_at dksJ5_valueOf_0 13 rfl rfl)
theorem dJ5_valueOf_16 : decode cJ5_valueOf 16 = .ok (.iload_n 0, 1) := dk_26 (dk_at dksJ5_valueOf_0 16 rfl rfl)
theorem dJ5_valueOf_17 : decode cJ5_valueOf 17 = .ok (.sipush 128, 3) := dk_17 0 128 (dk_at dksJ5_valueOf_0 17 rfl rfl)
theorem dJ5_valueOf_20 : decode cJ5_valueOf 20 = .ok (.iadd, 1) := dk_96 (dk_at dksJ5_valueOf_0 20 rfl rfl)
theorem dJ5_valueOf_21 : decode cJ5_valueOf 21 = .ok (.aaload, 1) := dk_50 (dk_at dksJ5_valueOf_0 21 rfl rfl)
theorem dJ5_valueOf_22 : decode cJ5_valueOf 22 = .ok (.areturn, 1) := dk_176 (dk_at dksJ5_valueOf_0 22 rfl rfl)
theorem dJ5_valueOf_23 : decode cJ5_valueOf 23 = .ok (.new 1, 3) := dk_187 0 1 (dk_at dksJ5_valueOf_1 0 rfl rfl)
theorem dJ5_valueOf_26 : decode cJ5_valueOf 26 = .ok (.dup, 1) := dk_89 (dk_at dksJ5_valueOf_1 3 rfl rfl)
theorem dJ5_valueOf_27 : decode cJ5_valueOf 27 = .ok (.iload_n 0, 1) := dk_26 (dk_at dksJ5_valueOf_1 4 rfl rfl)
theorem dJ5_valueOf_28 : decode cJ5_valueOf 28 = .ok (.invokespecial 199, 3) := dk_183 0 199 (dk_at dksJ5_valueOf_1 5 rfl rfl)
theorem dJ5_valueOf_31 : decode cJ5_valueOf 31 = .ok (.areturn, 1) := dk_176 (dk_at dksJ5_valueOf_1 8 rfl rfl)
abbrev cJ5_init : ByteArray := prog_24_method_23_code
def yJ5_init : MethodName := ⟨RJ5, "<init>", "(I)V"⟩
def dkwJ5_init_0 : List UInt8 := [42, 183, 0, 202, 42, 27, 181, 0, 205, 177]
abbrev dktJ5_init_0 : List UInt8 := dkwJ5_init_0 ++ []
theorem dksJ5_init_0 : cJ5_init.data.toList.drop 0 = dktJ5_init_0 := by decide +kernel
theorem dJ5_init_0 : decode cJ5_init 0 = .ok (.aload_n 0, 1) := dk_42 (dk_at dksJ5_init_0 0 rfl rfl)
theorem dJ5_init_1 : decode cJ5_init 1 = .ok (.invokespecial 202, 3) := dk_183 0 202 (dk_at dksJ5_init_0 1 rfl rfl)
theorem dJ5_init_4 : decode cJ5_init 4 = .ok (.aload_n 0, 1) := dk_42 (dk_at dksJ5_init_0 4 rfl rfl)
theorem dJ5_init_5 : decode cJ5_init 5 = .ok (.iload_n 1, 1) := dk_27 (dk_at dksJ5_init_0 5 rfl rfl)
theorem dJ5_init_6 : decode cJ5_init 6 = .ok (.putfield 205, 3) := dk_181 0 205 (dk_at dksJ5_init_0 6 rfl rfl)
theorem dJ5_init_9 : decode cJ5_init 9 = .ok (.return_, 1) := dk_177 (dk_at dksJ5_init_0 9 rfl rfl)
abbrev cJ5_intValue : ByteArray := prog_24_method_27_code
def yJ5_intValue : MethodName := ⟨RJ5, "intValue", "()I"⟩
theorem dJ5_intValue_0 : decode cJ5_intValue 0 = .ok (.aload_n 0, 1) := by decide +kernel
theorem dJ5_intValue_1 : decode cJ5_intValue 1 = .ok (.getfield 205, 3) := by decide +kernel
theorem dJ5_intValue_4 : decode cJ5_intValue 4 = .ok (.ireturn, 1) := by decide +kernel
abbrev cJ5_stringSize : ByteArray := prog_24_method_13_code
def yJ5_stringSize : MethodName := ⟨RJ5, "stringSize", "(I)I"⟩
def dkwJ5_stringSize_1 : List UInt8 := [164, 0, 7, 29, 27, 96, 172, 16, 10, 28, 104, 61, 132, 3, 1, 167, 255, 233, 16, 10, 27, 96, 172]
abbrev dktJ5_stringSize_1 : List UInt8 := dkwJ5_stringSize_1 ++ []
def dkwJ5_stringSize_0 : List UInt8 := [4, 60, 26, 155, 0, 8, 3, 60, 26, 116, 59, 16, 246, 61, 4, 62, 29, 16, 10, 162, 0, 23, 26, 28]
abbrev dktJ5_stringSize_0 : List UInt8 := dkwJ5_stringSize_0 ++ dktJ5_stringSize_1
theorem dksJ5_stringSize_0 : cJ5_stringSize.data.toList.drop 0 = dktJ5_stringSize_0 := by decide +kernel
theorem dksJ5_stringSize_1 : cJ5_stringSize.data.toList.drop 24 = dktJ5_stringSize_1 := dk_seg dksJ5_stringSize_0 24 rfl rfl
theorem dJ5_stringSize_0 : decode cJ5_stringSize 0 = .ok (.iconst 1, 1) := dk_4 (dk_at dksJ5_stringSize_0 0 rfl rfl)
theorem dJ5_stringSize_1 : decode cJ5_stringSize 1 = .ok (.istore_n 1, 1) := dk_60 (dk_at dksJ5_stringSize_0 1 rfl rfl)
theorem dJ5_stringSize_2 : decode cJ5_stringSize 2 = .ok (.iload_n 0, 1) := dk_26 (dk_at dksJ5_stringSize_0 2 rfl rfl)
theorem dJ5_stringSize_3 : decode cJ5_stringSize 3 = .ok (.ifCond .lt 8, 3) := dk_155 0 8 (dk_at dksJ5_stringSize_0 3 rfl rfl)
theorem dJ5_stringSize_6 : decode cJ5_stringSize 6 = .ok (.iconst 0, 1) := dk_3 (dk_at dksJ5_stringSize_0 6 rfl rfl)
theorem dJ5_stringSize_7 : decode cJ5_stringSize 7 = .ok (.istore_n 1, 1) := dk_60 (dk_at dksJ5_stringSize_0 7 rfl rfl)
theorem dJ5_stringSize_8 : decode cJ5_stringSize 8 = .ok (.iload_n 0, 1) := dk_26 (dk_at dksJ5_stringSize_0 8 rfl rfl)
theorem dJ5_stringSize_9 : decode cJ5_stringSize 9 = .ok (.ineg, 1) := dk_116 (dk_at dksJ5_stringSize_0 9 rfl rfl)
theorem dJ5_stringSize_10 : decode cJ5_stringSize 10 = .ok (.istore_n 0, 1) := dk_59 (dk_at dksJ5_stringSize_0 10 rfl rfl)
theorem dJ5_stringSize_11 : decode cJ5_stringSize 11 = .ok (.bipush (-10), 2) := dk_16 246 (dk_at dksJ5_stringSize_0 11 rfl rfl)
theorem dJ5_stringSize_13 : decode cJ5_stringSize 13 = .ok (.istore_n 2, 1) := dk_61 (dk_at dksJ5_stringSize_0 13 rfl rfl)
theorem dJ5_stringSize_14 : decode cJ5_stringSize 14 = .ok (.iconst 1, 1) := dk_4 (dk_at dksJ5_stringSize_0 14 rfl rfl)
theorem dJ5_stringSize_15 : decode cJ5_stringSize 15 = .ok (.istore_n 3, 1) := dk_62 (dk_at dksJ5_stringSize_0 15 rfl rfl)
theorem dJ5_stringSize_16 : decode cJ5_stringSize 16 = .ok (.iload_n 3, 1) := dk_29 (dk_at dksJ5_stringSize_0 16 rfl rfl)
theorem dJ5_stringSize_17 : decode cJ5_stringSize 17 = .ok (.bipush 10, 2) := dk_16 10 (dk_at dksJ5_stringSize_0 17 rfl rfl)
theorem dJ5_stringSize_19 : decode cJ5_stringSize 19 = .ok (.if_icmp .ge 23, 3) := dk_162 0 23 (dk_at dksJ5_stringSize_0 19 rfl rfl)
theorem dJ5_stringSize_22 : decode cJ5_stringSize 22 = .ok (.iload_n 0, 1) := dk_26 (dk_at dksJ5_stringSize_0 22 rfl rfl)
theorem dJ5_stringSize_23 : decode cJ5_stringSize 23 = .ok (.iload_n 2, 1) := dk_28 (dk_at dksJ5_stringSize_0 23 rfl rfl)
theorem dJ5_stringSize_24 : decode cJ5_stringSize 24 = .ok (.if_icmp .le 7, 3) := dk_164 0 7 (dk_at dksJ5_stringSize_1 0 rfl rfl)
theorem dJ5_stringSize_27 : decode cJ5_stringSize 27 = .ok (.iload_n 3, 1) := dk_29 (dk_at dksJ5_stringSize_1 3 rfl rfl)
theorem dJ5_stringSize_28 : decode cJ5_stringSize 28 = .ok (.iload_n 1, 1) := dk_27 (dk_at dksJ5_stringSize_1 4 rfl rfl)
theorem dJ5_stringSize_29 : decode cJ5_stringSize 29 = .ok (.iadd, 1) := dk_96 (dk_at dksJ5_stringSize_1 5 rfl rfl)
theorem dJ5_stringSize_30 : decode cJ5_stringSize 30 = .ok (.ireturn, 1) := dk_172 (dk_at dksJ5_stringSize_1 6 rfl rfl)
theorem dJ5_stringSize_31 : decode cJ5_stringSize 31 = .ok (.bipush 10, 2) := dk_16 10 (dk_at dksJ5_stringSize_1 7 rfl rfl)
theorem dJ5_stringSize_33 : decode cJ5_stringSize 33 = .ok (.iload_n 2, 1) := dk_28 (dk_at dksJ5_stringSize_1 9 rfl rfl)
theorem dJ5_stringSize_34 : decode cJ5_stringSize 34 = .ok (.imul, 1) := dk_104 (dk_at dksJ5_stringSize_1 10 rfl rfl)
theorem dJ5_stringSize_35 : decode cJ5_stringSize 35 = .ok (.istore_n 2, 1) := dk_61 (dk_at dksJ5_stringSize_1 11 rfl rfl)
theorem dJ5_stringSize_36 : decode cJ5_stringSize 36 = .ok (.iinc 3 1, 3) := dk_132 3 1 (dk_at dksJ5_stringSize_1 12 rfl rfl)
theorem dJ5_stringSize_39 : decode cJ5_stringSize 39 = .ok (.goto (-23), 3) := dk_167 255 233 (dk_at dksJ5_stringSize_1 15 rfl rfl)
theorem dJ5_stringSize_42 : decode cJ5_stringSize 42 = .ok (.bipush 10, 2) := dk_16 10 (dk_at dksJ5_stringSize_1 18 rfl rfl)
theorem dJ5_stringSize_44 : decode cJ5_stringSize 44 = .ok (.iload_n 1, 1) := dk_27 (dk_at dksJ5_stringSize_1 20 rfl rfl)
theorem dJ5_stringSize_45 : decode cJ5_stringSize 45 = .ok (.iadd, 1) := dk_96 (dk_at dksJ5_stringSize_1 21 rfl rfl)
theorem dJ5_stringSize_46 : decode cJ5_stringSize 46 = .ok (.ireturn, 1) := dk_172 (dk_at dksJ5_stringSize_1 22 rfl rfl)
abbrev cJ5_getChars : ByteArray := prog_24_method_12_code
def yJ5_getChars : MethodName := ⟨RJ5, "getChars", "(II[B)I"⟩
def dkwJ5_getChars_5 : List UInt8 := [16, 45, 84, 21, 5, 172]
abbrev dktJ5_getChars_5 : List UInt8 := dkwJ5_getChars_5 ++ []
def dkwJ5_getChars_4 : List UInt8 := [132, 5, 255, 21, 5, 178, 0, 87, 26, 116, 51, 84, 21, 6, 153, 0, 12, 44, 132, 5, 255, 21, 5]
abbrev dktJ5_getChars_4 : List UInt8 := dkwJ5_getChars_4 ++ dktJ5_getChars_5
def dkwJ5_getChars_3 : List UInt8 := [167, 255, 209, 44, 132, 5, 255, 21, 5, 178, 0, 83, 26, 116, 51, 84, 26, 16, 247, 162, 0, 16, 44]
abbrev dktJ5_getChars_3 : List UInt8 := dkwJ5_getChars_3 ++ dktJ5_getChars_4
def dkwJ5_getChars_2 : List UInt8 := [21, 5, 178, 0, 83, 21, 4, 51, 84, 44, 132, 5, 255, 21, 5, 178, 0, 87, 21, 4, 51, 84]
abbrev dktJ5_getChars_2 : List UInt8 := dkwJ5_getChars_2 ++ dktJ5_getChars_3
def dkwJ5_getChars_1 : List UInt8 := [16, 156, 163, 0, 47, 26, 16, 100, 108, 62, 29, 16, 100, 104, 26, 100, 54, 4, 29, 59, 44, 132, 5, 255]
abbrev dktJ5_getChars_1 : List UInt8 := dkwJ5_getChars_1 ++ dktJ5_getChars_2
def dkwJ5_getChars_0 : List UInt8 := [27, 54, 5, 26, 156, 0, 7, 4, 167, 0, 4, 3, 54, 6, 21, 6, 154, 0, 6, 26, 116, 59, 26]
abbrev dktJ5_getChars_0 : List UInt8 := dkwJ5_getChars_0 ++ dktJ5_getChars_1
theorem dksJ5_getChars_0 : cJ5_getChars.data.toList.drop 0 = dktJ5_getChars_0 := by decide +kernel
theorem dksJ5_getChars_1 : cJ5_getChars.data.toList.drop 23 = dktJ5_getChars_1 := dk_seg dksJ5_getChars_0 23 rfl rfl
theorem dksJ5_getChars_2 : cJ5_getChars.data.toList.drop 47 = dktJ5_getChars_2 := dk_seg dksJ5_getChars_1 24 rfl rfl
theorem dksJ5_getChars_3 : cJ5_getChars.data.toList.drop 69 = dktJ5_getChars_3 := dk_seg dksJ5_getChars_2 22 rfl rfl
theorem dksJ5_getChars_4 : cJ5_getChars.data.toList.drop 92 = dktJ5_getChars_4 := dk_seg dksJ5_getChars_3 23 rfl rfl
theorem dksJ5_getChars_5 : cJ5_getChars.data.toList.drop 115 = dktJ5_getChars_5 := dk_seg dksJ5_getChars_4 23 rfl rfl
theorem dJ5_getChars_0 : decode cJ5_getChars 0 = .ok (.iload_n 1, 1) := dk_27 (dk_at dksJ5_getChars_0 0 rfl rfl)
theorem dJ5_getChars_1 : decode cJ5_getChars 1 = .ok (.istore 5, 2) := dk_54 5 (dk_at dksJ5_getChars_0 1 rfl rfl)
theorem dJ5_getChars_3 : decode cJ5_getChars 3 = .ok (.iload_n 0, 1) := dk_26 (dk_at dksJ5_getChars_0 3 rfl rfl)
theorem dJ5_getChars_4 : decode cJ5_getChars 4 = .ok (.ifCond .ge 7, 3) := dk_156 0 7 (dk_at dksJ5_getChars_0 4 rfl rfl)
theorem dJ5_getChars_7 : decode cJ5_getChars 7 = .ok (.iconst 1, 1) := dk_4 (dk_at dksJ5_getChars_0 7 rfl rfl)
theorem dJ5_getChars_8 : decode cJ5_getChars 8 = .ok (.goto 4, 3) := dk_167 0 4 (dk_at dksJ5_getChars_0 8 rfl rfl)
theorem dJ5_getChars_11 : decode cJ5_getChars 11 = .ok (.iconst 0, 1) := dk_3 (dk_at dksJ5_getChars_0 11 rfl rfl)
theorem dJ5_getChars_12 : decode cJ5_getChars 12 = .ok (.istore 6, 2) := dk_54 6 (dk_at dksJ5_getChars_0 12 rfl rfl)
theorem dJ5_getChars_14 : decode cJ5_getChars 14 = .ok (.iload 6, 2) := dk_21 6 (dk_at dksJ5_getChars_0 14 rfl rfl)
theorem dJ5_getChars_16 : decode cJ5_getChars 16 = .ok (.ifCond .ne 6, 3) := dk_154 0 6 (dk_at dksJ5_getChars_0 16 rfl rfl)
theorem dJ5_getChars_19 : decode cJ5_getChars 19 = .ok (.iload_n 0, 1) := dk_26 (dk_at dksJ5_getChars_0 19 rfl rfl)
theorem dJ5_getChars_20 : decode cJ5_getChars 20 = .ok (.ineg, 1) := dk_116 (dk_at dksJ5_getChars_0 20 rfl rfl)
theorem dJ5_getChars_21 : decode cJ5_getChars 21 = .ok (.istore_n 0, 1) := dk_59 (dk_at dksJ5_getChars_0 21 rfl rfl)
theorem dJ5_getChars_22 : decode cJ5_getChars 22 = .ok (.iload_n 0, 1) := dk_26 (dk_at dksJ5_getChars_0 22 rfl rfl)
theorem dJ5_getChars_23 : decode cJ5_getChars 23 = .ok (.bipush (-100), 2) := dk_16 156 (dk_at dksJ5_getChars_1 0 rfl rfl)
theorem dJ5_getChars_25 : decode cJ5_getChars 25 = .ok (.if_icmp .gt 47, 3) := dk_163 0 47 (dk_at dksJ5_getChars_1 2 rfl rfl)
theorem dJ5_getChars_28 : decode cJ5_getChars 28 = .ok (.iload_n 0, 1) := dk_26 (dk_at dksJ5_getChars_1 5 rfl rfl)
theorem dJ5_getChars_29 : decode cJ5_getChars 29 = .ok (.bipush 100, 2) := dk_16 100 (dk_at dksJ5_getChars_1 6 rfl rfl)
theorem dJ5_getChars_31 : decode cJ5_getChars 31 = .ok (.idiv, 1) := dk_108 (dk_at dksJ5_getChars_1 8 rfl rfl)
theorem dJ5_getChars_32 : decode cJ5_getChars 32 = .ok (.istore_n 3, 1) := dk_62 (dk_at dksJ5_getChars_1 9 rfl rfl)
theorem dJ5_getChars_33 : decode cJ5_getChars 33 = .ok (.iload_n 3, 1) := dk_29 (dk_at dksJ5_getChars_1 10 rfl rfl)
theorem dJ5_getChars_34 : decode cJ5_getChars 34 = .ok (.bipush 100, 2) := dk_16 100 (dk_at dksJ5_getChars_1 11 rfl rfl)
theorem dJ5_getChars_36 : decode cJ5_getChars 36 = .ok (.imul, 1) := dk_104 (dk_at dksJ5_getChars_1 13 rfl rfl)
theorem dJ5_getChars_37 : decode cJ5_getChars 37 = .ok (.iload_n 0, 1) := dk_26 (dk_at dksJ5_getChars_1 14 rfl rfl)
theorem dJ5_getChars_38 : decode cJ5_getChars 38 = .ok (.isub, 1) := dk_100 (dk_at dksJ5_getChars_1 15 rfl rfl)
theorem dJ5_getChars_39 : decode cJ5_getChars 39 = .ok (.istore 4, 2) := dk_54 4 (dk_at dksJ5_getChars_1 16 rfl rfl)
theorem dJ5_getChars_41 : decode cJ5_getChars 41 = .ok (.iload_n 3, 1) := dk_29 (dk_at dksJ5_getChars_1 18 rfl rfl)
theorem dJ5_getChars_42 : decode cJ5_getChars 42 = .ok (.istore_n 0, 1) := dk_59 (dk_at dksJ5_getChars_1 19 rfl rfl)
theorem dJ5_getChars_43 : decode cJ5_getChars 43 = .ok (.aload_n 2, 1) := dk_44 (dk_at dksJ5_getChars_1 20 rfl rfl)
theorem dJ5_getChars_44 : decode cJ5_getChars 44 = .ok (.iinc 5 (-1), 3) := dk_132 5 255 (dk_at dksJ5_getChars_1 21 rfl rfl)
theorem dJ5_getChars_47 : decode cJ5_getChars 47 = .ok (.iload 5, 2) := dk_21 5 (dk_at dksJ5_getChars_2 0 rfl rfl)
theorem dJ5_getChars_49 : decode cJ5_getChars 49 = .ok (.getstatic 83, 3) := dk_178 0 83 (dk_at dksJ5_getChars_2 2 rfl rfl)
theorem dJ5_getChars_52 : decode cJ5_getChars 52 = .ok (.iload 4, 2) := dk_21 4 (dk_at dksJ5_getChars_2 5 rfl rfl)
theorem dJ5_getChars_54 : decode cJ5_getChars 54 = .ok (.baload, 1) := dk_51 (dk_at dksJ5_getChars_2 7 rfl rfl)
theorem dJ5_getChars_55 : decode cJ5_getChars 55 = .ok (.bastore, 1) := dk_84 (dk_at dksJ5_getChars_2 8 rfl rfl)
theorem dJ5_getChars_56 : decode cJ5_getChars 56 = .ok (.aload_n 2, 1) := dk_44 (dk_at dksJ5_getChars_2 9 rfl rfl)
theorem dJ5_getChars_57 : decode cJ5_getChars 57 = .ok (.iinc 5 (-1), 3) := dk_132 5 255 (dk_at dksJ5_getChars_2 10 rfl rfl)
theorem dJ5_getChars_60 : decode cJ5_getChars 60 = .ok (.iload 5, 2) := dk_21 5 (dk_at dksJ5_getChars_2 13 rfl rfl)
theorem dJ5_getChars_62 : decode cJ5_getChars 62 = .ok (.getstatic 87, 3) := dk_178 0 87 (dk_at dksJ5_getChars_2 15 rfl rfl)
theorem dJ5_getChars_65 : decode cJ5_getChars 65 = .ok (.iload 4, 2) := dk_21 4 (dk_at dksJ5_getChars_2 18 rfl rfl)
theorem dJ5_getChars_67 : decode cJ5_getChars 67 = .ok (.baload, 1) := dk_51 (dk_at dksJ5_getChars_2 20 rfl rfl)
theorem dJ5_getChars_68 : decode cJ5_getChars 68 = .ok (.bastore, 1) := dk_84 (dk_at dksJ5_getChars_2 21 rfl rfl)
theorem dJ5_getChars_69 : decode cJ5_getChars 69 = .ok (.goto (-47), 3) := dk_167 255 209 (dk_at dksJ5_getChars_3 0 rfl rfl)
theorem dJ5_getChars_72 : decode cJ5_getChars 72 = .ok (.aload_n 2, 1) := dk_44 (dk_at dksJ5_getChars_3 3 rfl rfl)
theorem dJ5_getChars_73 : decode cJ5_getChars 73 = .ok (.iinc 5 (-1), 3) := dk_132 5 255 (dk_at dksJ5_getChars_3 4 rfl rfl)
theorem dJ5_getChars_76 : decode cJ5_getChars 76 = .ok (.iload 5, 2) := dk_21 5 (dk_at dksJ5_getChars_3 7 rfl rfl)
theorem dJ5_getChars_78 : decode cJ5_getChars 78 = .ok (.getstatic 83, 3) := dk_178 0 83 (dk_at dksJ5_getChars_3 9 rfl rfl)
theorem dJ5_getChars_81 : decode cJ5_getChars 81 = .ok (.iload_n 0, 1) := dk_26 (dk_at dksJ5_getChars_3 12 rfl rfl)
theorem dJ5_getChars_82 : decode cJ5_getChars 82 = .ok (.ineg, 1) := dk_116 (dk_at dksJ5_getChars_3 13 rfl rfl)
theorem dJ5_getChars_83 : decode cJ5_getChars 83 = .ok (.baload, 1) := dk_51 (dk_at dksJ5_getChars_3 14 rfl rfl)
theorem dJ5_getChars_84 : decode cJ5_getChars 84 = .ok (.bastore, 1) := dk_84 (dk_at dksJ5_getChars_3 15 rfl rfl)
theorem dJ5_getChars_85 : decode cJ5_getChars 85 = .ok (.iload_n 0, 1) := dk_26 (dk_at dksJ5_getChars_3 16 rfl rfl)
theorem dJ5_getChars_86 : decode cJ5_getChars 86 = .ok (.bipush (-9), 2) := dk_16 247 (dk_at dksJ5_getChars_3 17 rfl rfl)
theorem dJ5_getChars_88 : decode cJ5_getChars 88 = .ok (.if_icmp .ge 16, 3) := dk_162 0 16 (dk_at dksJ5_getChars_3 19 rfl rfl)
theorem dJ5_getChars_91 : decode cJ5_getChars 91 = .ok (.aload_n 2, 1) := dk_44 (dk_at dksJ5_getChars_3 22 rfl rfl)
theorem dJ5_getChars_92 : decode cJ5_getChars 92 = .ok (.iinc 5 (-1), 3) := dk_132 5 255 (dk_at dksJ5_getChars_4 0 rfl rfl)
theorem dJ5_getChars_95 : decode cJ5_getChars 95 = .ok (.iload 5, 2) := dk_21 5 (dk_at dksJ5_getChars_4 3 rfl rfl)
theorem dJ5_getChars_97 : decode cJ5_getChars 97 = .ok (.getstatic 87, 3) := dk_178 0 87 (dk_at dksJ5_getChars_4 5 rfl rfl)
theorem dJ5_getChars_100 : decode cJ5_getChars 100 = .ok (.iload_n 0, 1) := dk_26 (dk_at dksJ5_getChars_4 8 rfl rfl)
theorem dJ5_getChars_101 : decode cJ5_getChars 101 = .ok (.ineg, 1) := dk_116 (dk_at dksJ5_getChars_4 9 rfl rfl)
theorem dJ5_getChars_102 : decode cJ5_getChars 102 = .ok (.baload, 1) := dk_51 (dk_at dksJ5_getChars_4 10 rfl rfl)
theorem dJ5_getChars_103 : decode cJ5_getChars 103 = .ok (.bastore, 1) := dk_84 (dk_at dksJ5_getChars_4 11 rfl rfl)
theorem dJ5_getChars_104 : decode cJ5_getChars 104 = .ok (.iload 6, 2) := dk_21 6 (dk_at dksJ5_getChars_4 12 rfl rfl)
theorem dJ5_getChars_106 : decode cJ5_getChars 106 = .ok (.ifCond .eq 12, 3) := dk_153 0 12 (dk_at dksJ5_getChars_4 14 rfl rfl)
theorem dJ5_getChars_109 : decode cJ5_getChars 109 = .ok (.aload_n 2, 1) := dk_44 (dk_at dksJ5_getChars_4 17 rfl rfl)
theorem dJ5_getChars_110 : decode cJ5_getChars 110 = .ok (.iinc 5 (-1), 3) := dk_132 5 255 (dk_at dksJ5_getChars_4 18 rfl rfl)
theorem dJ5_getChars_113 : decode cJ5_getChars 113 = .ok (.iload 5, 2) := dk_21 5 (dk_at dksJ5_getChars_4 21 rfl rfl)
theorem dJ5_getChars_115 : decode cJ5_getChars 115 = .ok (.bipush 45, 2) := dk_16 45 (dk_at dksJ5_getChars_5 0 rfl rfl)
theorem dJ5_getChars_117 : decode cJ5_getChars 117 = .ok (.bastore, 1) := dk_84 (dk_at dksJ5_getChars_5 2 rfl rfl)
theorem dJ5_getChars_118 : decode cJ5_getChars 118 = .ok (.iload 5, 2) := dk_21 5 (dk_at dksJ5_getChars_5 3 rfl rfl)
theorem dJ5_getChars_120 : decode cJ5_getChars 120 = .ok (.ireturn, 1) := dk_172 (dk_at dksJ5_getChars_5 5 rfl rfl)
abbrev cJ5_numberOfLeadingZeros : ByteArray := prog_24_method_47_code
def yJ5_numberOfLeadingZeros : MethodName := ⟨RJ5, "numberOfLeadingZeros", "(I)I"⟩
def dkwJ5_numberOfLeadingZeros_3 : List UInt8 := [5, 124, 59, 27, 26, 4, 124, 100, 172]
abbrev dktJ5_numberOfLeadingZeros_3 : List UInt8 := dkwJ5_numberOfLeadingZeros_3 ++ []
def dkwJ5_numberOfLeadingZeros_2 : List UInt8 := [124, 59, 26, 16, 16, 161, 0, 10, 132, 1, 252, 26, 7, 124, 59, 26, 7, 161, 0, 10, 132, 1, 254, 26]
abbrev dktJ5_numberOfLeadingZeros_2 : List UInt8 := dkwJ5_numberOfLeadingZeros_2 ++ dktJ5_numberOfLeadingZeros_3
def dkwJ5_numberOfLeadingZeros_1 : List UInt8 := [161, 0, 11, 132, 1, 240, 26, 16, 16, 124, 59, 26, 17, 1, 0, 161, 0, 11, 132, 1, 248, 26, 16, 8]
abbrev dktJ5_numberOfLeadingZeros_1 : List UInt8 := dkwJ5_numberOfLeadingZeros_1 ++ dktJ5_numberOfLeadingZeros_2
def dkwJ5_numberOfLeadingZeros_0 : List UInt8 := [26, 157, 0, 14, 26, 154, 0, 8, 16, 32, 167, 0, 4, 3, 172, 16, 31, 60, 26, 19, 1, 8]
abbrev dktJ5_numberOfLeadingZeros_0 : List UInt8 := dkwJ5_numberOfLeadingZeros_0 ++ dktJ5_numberOfLeadingZeros_1
theorem dksJ5_numberOfLeadingZeros_0 : cJ5_numberOfLeadingZeros.data.toList.drop 0 = dktJ5_numberOfLeadingZeros_0 := by decide +kernel
theorem dksJ5_numberOfLeadingZeros_1 : cJ5_numberOfLeadingZeros.data.toList.drop 22 = dktJ5_numberOfLeadingZeros_1 := dk_seg dksJ5_numberOfLeadingZeros_0 22 rfl rfl
theorem dksJ5_numberOfLeadingZeros_2 : cJ5_numberOfLeadingZeros.data.toList.drop 46 = dktJ5_numberOfLeadingZeros_2 := dk_seg dksJ5_numberOfLeadingZeros_1 24 rfl rfl
theorem dksJ5_numberOfLeadingZeros_3 : cJ5_numberOfLeadingZeros.data.toList.drop 70 = dktJ5_numberOfLeadingZeros_3 := dk_seg dksJ5_numberOfLeadingZeros_2 24 rfl rfl
theorem dJ5_numberOfLeadingZeros_0 : decode cJ5_numberOfLeadingZeros 0 = .ok (.iload_n 0, 1) := dk_26 (dk_at dksJ5_numberOfLeadingZeros_0 0 rfl rfl)
theorem dJ5_numberOfLeadingZeros_1 : decode cJ5_numberOfLeadingZeros 1 = .ok (.ifCond .gt 14, 3) := dk_157 0 14 (dk_at dksJ5_numberOfLeadingZeros_0 1 rfl rfl)
theorem dJ5_numberOfLeadingZeros_4 : decode cJ5_numberOfLeadingZeros 4 = .ok (.iload_n 0, 1) := dk_26 (dk_at dksJ5_numberOfLeadingZeros_0 4 rfl rfl)
theorem dJ5_numberOfLeadingZeros_5 : decode cJ5_numberOfLeadingZeros 5 = .ok (.ifCond .ne 8, 3) := dk_154 0 8 (dk_at dksJ5_numberOfLeadingZeros_0 5 rfl rfl)
theorem dJ5_numberOfLeadingZeros_8 : decode cJ5_numberOfLeadingZeros 8 = .ok (.bipush 32, 2) := dk_16 32 (dk_at dksJ5_numberOfLeadingZeros_0 8 rfl rfl)
theorem dJ5_numberOfLeadingZeros_10 : decode cJ5_numberOfLeadingZeros 10 = .ok (.goto 4, 3) := dk_167 0 4 (dk_at dksJ5_numberOfLeadingZeros_0 10 rfl rfl)
theorem dJ5_numberOfLeadingZeros_13 : decode cJ5_numberOfLeadingZeros 13 = .ok (.iconst 0, 1) := dk_3 (dk_at dksJ5_numberOfLeadingZeros_0 13 rfl rfl)
theorem dJ5_numberOfLeadingZeros_14 : decode cJ5_numberOfLeadingZeros 14 = .ok (.ireturn, 1) := dk_172 (dk_at dksJ5_numberOfLeadingZeros_0 14 rfl rfl)
theorem dJ5_numberOfLeadingZeros_15 : decode cJ5_numberOfLeadingZeros 15 = .ok (.bipush 31, 2) := dk_16 31 (dk_at dksJ5_numberOfLeadingZeros_0 15 rfl rfl)
theorem dJ5_numberOfLeadingZeros_17 : decode cJ5_numberOfLeadingZeros 17 = .ok (.istore_n 1, 1) := dk_60 (dk_at dksJ5_numberOfLeadingZeros_0 17 rfl rfl)
theorem dJ5_numberOfLeadingZeros_18 : decode cJ5_numberOfLeadingZeros 18 = .ok (.iload_n 0, 1) := dk_26 (dk_at dksJ5_numberOfLeadingZeros_0 18 rfl rfl)
theorem dJ5_numberOfLeadingZeros_19 : decode cJ5_numberOfLeadingZeros 19 = .ok (.ldc_w 264, 3) := dk_19 1 8 (dk_at dksJ5_numberOfLeadingZeros_0 19 rfl rfl)
theorem dJ5_numberOfLeadingZeros_22 : decode cJ5_numberOfLeadingZeros 22 = .ok (.if_icmp .lt 11, 3) := dk_161 0 11 (dk_at dksJ5_numberOfLeadingZeros_1 0 rfl rfl)
theorem dJ5_numberOfLeadingZeros_25 : decode cJ5_numberOfLeadingZeros 25 = .ok (.iinc 1 (-16), 3) := dk_132 1 240 (dk_at dksJ5_numberOfLeadingZeros_1 3 rfl rfl)
theorem dJ5_numberOfLeadingZeros_28 : decode cJ5_numberOfLeadingZeros 28 = .ok (.iload_n 0, 1) := dk_26 (dk_at dksJ5_numberOfLeadingZeros_1 6 rfl rfl)
theorem dJ5_numberOfLeadingZeros_29 : decode cJ5_numberOfLeadingZeros 29 = .ok (.bipush 16, 2) := dk_16 16 (dk_at dksJ5_numberOfLeadingZeros_1 7 rfl rfl)
theorem dJ5_numberOfLeadingZeros_31 : decode cJ5_numberOfLeadingZeros 31 = .ok (.iushr, 1) := dk_124 (dk_at dksJ5_numberOfLeadingZeros_1 9 rfl rfl)
theorem dJ5_numberOfLeadingZeros_32 : decode cJ5_numberOfLeadingZeros 32 = .ok (.istore_n 0, 1) := dk_59 (dk_at dksJ5_numberOfLeadingZeros_1 10 rfl rfl)
theorem dJ5_numberOfLeadingZeros_33 : decode cJ5_numberOfLeadingZeros 33 = .ok (.iload_n 0, 1) := dk_26 (dk_at dksJ5_numberOfLeadingZeros_1 11 rfl rfl)
theorem dJ5_numberOfLeadingZeros_34 : decode cJ5_numberOfLeadingZeros 34 = .ok (.sipush 256, 3) := dk_17 1 0 (dk_at dksJ5_numberOfLeadingZeros_1 12 rfl rfl)
theorem dJ5_numberOfLeadingZeros_37 : decode cJ5_numberOfLeadingZeros 37 = .ok (.if_icmp .lt 11, 3) := dk_161 0 11 (dk_at dksJ5_numberOfLeadingZeros_1 15 rfl rfl)
theorem dJ5_numberOfLeadingZeros_40 : decode cJ5_numberOfLeadingZeros 40 = .ok (.iinc 1 (-8), 3) := dk_132 1 248 (dk_at dksJ5_numberOfLeadingZeros_1 18 rfl rfl)
theorem dJ5_numberOfLeadingZeros_43 : decode cJ5_numberOfLeadingZeros 43 = .ok (.iload_n 0, 1) := dk_26 (dk_at dksJ5_numberOfLeadingZeros_1 21 rfl rfl)
theorem dJ5_numberOfLeadingZeros_44 : decode cJ5_numberOfLeadingZeros 44 = .ok (.bipush 8, 2) := dk_16 8 (dk_at dksJ5_numberOfLeadingZeros_1 22 rfl rfl)
theorem dJ5_numberOfLeadingZeros_46 : decode cJ5_numberOfLeadingZeros 46 = .ok (.iushr, 1) := dk_124 (dk_at dksJ5_numberOfLeadingZeros_2 0 rfl rfl)
theorem dJ5_numberOfLeadingZeros_47 : decode cJ5_numberOfLeadingZeros 47 = .ok (.istore_n 0, 1) := dk_59 (dk_at dksJ5_numberOfLeadingZeros_2 1 rfl rfl)
theorem dJ5_numberOfLeadingZeros_48 : decode cJ5_numberOfLeadingZeros 48 = .ok (.iload_n 0, 1) := dk_26 (dk_at dksJ5_numberOfLeadingZeros_2 2 rfl rfl)
theorem dJ5_numberOfLeadingZeros_49 : decode cJ5_numberOfLeadingZeros 49 = .ok (.bipush 16, 2) := dk_16 16 (dk_at dksJ5_numberOfLeadingZeros_2 3 rfl rfl)
theorem dJ5_numberOfLeadingZeros_51 : decode cJ5_numberOfLeadingZeros 51 = .ok (.if_icmp .lt 10, 3) := dk_161 0 10 (dk_at dksJ5_numberOfLeadingZeros_2 5 rfl rfl)
theorem dJ5_numberOfLeadingZeros_54 : decode cJ5_numberOfLeadingZeros 54 = .ok (.iinc 1 (-4), 3) := dk_132 1 252 (dk_at dksJ5_numberOfLeadingZeros_2 8 rfl rfl)
theorem dJ5_numberOfLeadingZeros_57 : decode cJ5_numberOfLeadingZeros 57 = .ok (.iload_n 0, 1) := dk_26 (dk_at dksJ5_numberOfLeadingZeros_2 11 rfl rfl)
theorem dJ5_numberOfLeadingZeros_58 : decode cJ5_numberOfLeadingZeros 58 = .ok (.iconst 4, 1) := dk_7 (dk_at dksJ5_numberOfLeadingZeros_2 12 rfl rfl)
theorem dJ5_numberOfLeadingZeros_59 : decode cJ5_numberOfLeadingZeros 59 = .ok (.iushr, 1) := dk_124 (dk_at dksJ5_numberOfLeadingZeros_2 13 rfl rfl)
theorem dJ5_numberOfLeadingZeros_60 : decode cJ5_numberOfLeadingZeros 60 = .ok (.istore_n 0, 1) := dk_59 (dk_at dksJ5_numberOfLeadingZeros_2 14 rfl rfl)
theorem dJ5_numberOfLeadingZeros_61 : decode cJ5_numberOfLeadingZeros 61 = .ok (.iload_n 0, 1) := dk_26 (dk_at dksJ5_numberOfLeadingZeros_2 15 rfl rfl)
theorem dJ5_numberOfLeadingZeros_62 : decode cJ5_numberOfLeadingZeros 62 = .ok (.iconst 4, 1) := dk_7 (dk_at dksJ5_numberOfLeadingZeros_2 16 rfl rfl)
theorem dJ5_numberOfLeadingZeros_63 : decode cJ5_numberOfLeadingZeros 63 = .ok (.if_icmp .lt 10, 3) := dk_161 0 10 (dk_at dksJ5_numberOfLeadingZeros_2 17 rfl rfl)
theorem dJ5_numberOfLeadingZeros_66 : decode cJ5_numberOfLeadingZeros 66 = .ok (.iinc 1 (-2), 3) := dk_132 1 254 (dk_at dksJ5_numberOfLeadingZeros_2 20 rfl rfl)
theorem dJ5_numberOfLeadingZeros_69 : decode cJ5_numberOfLeadingZeros 69 = .ok (.iload_n 0, 1) := dk_26 (dk_at dksJ5_numberOfLeadingZeros_2 23 rfl rfl)
theorem dJ5_numberOfLeadingZeros_70 : decode cJ5_numberOfLeadingZeros 70 = .ok (.iconst 2, 1) := dk_5 (dk_at dksJ5_numberOfLeadingZeros_3 0 rfl rfl)
theorem dJ5_numberOfLeadingZeros_71 : decode cJ5_numberOfLeadingZeros 71 = .ok (.iushr, 1) := dk_124 (dk_at dksJ5_numberOfLeadingZeros_3 1 rfl rfl)
theorem dJ5_numberOfLeadingZeros_72 : decode cJ5_numberOfLeadingZeros 72 = .ok (.istore_n 0, 1) := dk_59 (dk_at dksJ5_numberOfLeadingZeros_3 2 rfl rfl)
theorem dJ5_numberOfLeadingZeros_73 : decode cJ5_numberOfLeadingZeros 73 = .ok (.iload_n 1, 1) := dk_27 (dk_at dksJ5_numberOfLeadingZeros_3 3 rfl rfl)
theorem dJ5_numberOfLeadingZeros_74 : decode cJ5_numberOfLeadingZeros 74 = .ok (.iload_n 0, 1) := dk_26 (dk_at dksJ5_numberOfLeadingZeros_3 4 rfl rfl)
theorem dJ5_numberOfLeadingZeros_75 : decode cJ5_numberOfLeadingZeros 75 = .ok (.iconst 1, 1) := dk_4 (dk_at dksJ5_numberOfLeadingZeros_3 5 rfl rfl)
theorem dJ5_numberOfLeadingZeros_76 : decode cJ5_numberOfLeadingZeros 76 = .ok (.iushr, 1) := dk_124 (dk_at dksJ5_numberOfLeadingZeros_3 6 rfl rfl)
theorem dJ5_numberOfLeadingZeros_77 : decode cJ5_numberOfLeadingZeros 77 = .ok (.isub, 1) := dk_100 (dk_at dksJ5_numberOfLeadingZeros_3 7 rfl rfl)
theorem dJ5_numberOfLeadingZeros_78 : decode cJ5_numberOfLeadingZeros 78 = .ok (.ireturn, 1) := dk_172 (dk_at dksJ5_numberOfLeadingZeros_3 8 rfl rfl)
theorem q116 : (Jvm.Cond.initialized "java/lang/Integer") ∈ lw_all := lw_g (lw_at lw_m1 11 rfl) rfl
theorem q320 : (Jvm.Cond.static ({ cls := "java/lang/Integer", name := "valueOf", desc := "(I)Ljava/lang/Integer;" } : Jvm.MethodName)) ∈ lw_all := lw_g (lw_at lw_m1 215 rfl) rfl
theorem q321 : (Jvm.Cond.code ({ cls := "java/lang/Integer", name := "valueOf", desc := "(I)Ljava/lang/Integer;" } : Jvm.MethodName) prog_24_method_22_code (1 : Nat) (Option.some (Jvm.ClassFile.FieldType.object "java/lang/Integer"))) ∈ lw_all := lw_g (lw_at lw_m1 216 rfl) rfl
theorem q322 : (Jvm.Cond.fieldLink "java/lang/Integer" (191 : Nat) "java/lang/Integer$IntegerCache" "high" "I") ∈ lw_all := lw_g (lw_at lw_m1 217 rfl) rfl
theorem q324 : (Jvm.Cond.fieldLink "java/lang/Integer" (195 : Nat) "java/lang/Integer$IntegerCache" "cache" "[Ljava/lang/Integer;") ∈ lw_all := lw_g (lw_at lw_m1 219 rfl) rfl
theorem q326 : (Jvm.Cond.classLink "java/lang/Integer" (1 : Nat) "java/lang/Integer") ∈ lw_all := lw_g (lw_at lw_m1 221 rfl) rfl
theorem q327 : (Jvm.Cond.instantiable "java/lang/Integer" (1 : Nat)) ∈ lw_all := lw_g (lw_at lw_m1 222 rfl) rfl
theorem q328 : (Jvm.Cond.methodLink "java/lang/Integer" (199 : Nat) ({ cls := "java/lang/Integer", name := "<init>", desc := "(I)V" } : Jvm.MethodName)) ∈ lw_all := lw_g (lw_at lw_m1 223 rfl) rfl
theorem q329 : (Jvm.Cond.instanceMethod ({ cls := "java/lang/Integer", name := "<init>", desc := "(I)V" } : Jvm.MethodName)) ∈ lw_all := lw_g (lw_at lw_m1 224 rfl) rfl
theorem q330 : (Jvm.Cond.code ({ cls := "java/lang/Integer", name := "<init>", desc := "(I)V" } : Jvm.MethodName) prog_24_method_23_code (2 : Nat) (Option.none : Option Jvm.ClassFile.FieldType)) ∈ lw_all := lw_g (lw_at lw_m1 225 rfl) rfl
theorem q331 : (Jvm.Cond.methodLink "java/lang/Integer" (202 : Nat) ({ cls := "java/lang/Number", name := "<init>", desc := "()V" } : Jvm.MethodName)) ∈ lw_all := lw_g (lw_at lw_m1 226 rfl) rfl
theorem q335 : (Jvm.Cond.fieldLink "java/lang/Integer" (205 : Nat) "java/lang/Integer" "value" "I") ∈ lw_all := lw_g (lw_at lw_m1 230 rfl) rfl
theorem q336 : (Jvm.Cond.laysFinal "java/lang/Integer" "java/lang/Integer" "value" "I") ∈ lw_all := lw_g (lw_at lw_m1 231 rfl) rfl
theorem q337 : (Jvm.Cond.soleField "java/lang/Integer" "value") ∈ lw_all := lw_g (lw_at lw_m1 232 rfl) rfl
theorem q338 : (Jvm.Cond.superclass "java/lang/Integer" "java/lang/Number") ∈ lw_all := lw_g (lw_at lw_m1 233 rfl) rfl
theorem q341 : (Jvm.Cond.instanceMethod ({ cls := "java/lang/Integer", name := "intValue", desc := "()I" } : Jvm.MethodName)) ∈ lw_all := lw_g (lw_at lw_m1 236 rfl) rfl
theorem q342 : (Jvm.Cond.selects "java/lang/Integer" ({ cls := "java/lang/Integer", name := "intValue", desc := "()I" } : Jvm.MethodName) ({ cls := "java/lang/Integer", name := "intValue", desc := "()I" } : Jvm.MethodName)) ∈ lw_all := lw_g (lw_at lw_m1 237 rfl) rfl
theorem q343 : (Jvm.Cond.code ({ cls := "java/lang/Integer", name := "intValue", desc := "()I" } : Jvm.MethodName) prog_24_method_27_code (1 : Nat) (Option.some Jvm.ClassFile.FieldType.int)) ∈ lw_all := lw_g (lw_at lw_m1 238 rfl) rfl
theorem q612 : (Jvm.Cond.selects "java/lang/Integer" ({ cls := "java/lang/Object", name := "getClass", desc := "()Ljava/lang/Class;" } : Jvm.MethodName) ({ cls := "java/lang/Object", name := "getClass", desc := "()Ljava/lang/Class;" } : Jvm.MethodName)) ∈ lw_all := lw_g (lw_at lw_m3 27 rfl) rfl
theorem q801 : (Jvm.Cond.static ({ cls := "java/lang/Integer", name := "stringSize", desc := "(I)I" } : Jvm.MethodName)) ∈ lw_all := lw_g (lw_at lw_m3 216 rfl) rfl
theorem q802 : (Jvm.Cond.code ({ cls := "java/lang/Integer", name := "stringSize", desc := "(I)I" } : Jvm.MethodName) prog_24_method_13_code (4 : Nat) (Option.some Jvm.ClassFile.FieldType.int)) ∈ lw_all := lw_g (lw_at lw_m3 217 rfl) rfl
theorem q804 : (Jvm.Cond.static ({ cls := "java/lang/Integer", name := "getChars", desc := "(II[B)I" } : Jvm.MethodName)) ∈ lw_all := lw_g (lw_at lw_m3 219 rfl) rfl
theorem q805 : (Jvm.Cond.code ({ cls := "java/lang/Integer", name := "getChars", desc := "(II[B)I" } : Jvm.MethodName) prog_24_method_12_code (7 : Nat) (Option.some Jvm.ClassFile.FieldType.int)) ∈ lw_all := lw_g (lw_at lw_m3 220 rfl) rfl
theorem q806 : (Jvm.Cond.fieldLink "java/lang/Integer" (83 : Nat) "java/lang/Integer" "DigitOnes" "[B") ∈ lw_all := lw_g (lw_at lw_m3 221 rfl) rfl
theorem q807 : (Jvm.Cond.laysStatic "java/lang/Integer" "DigitOnes" "[B") ∈ lw_tbl := lw_at lw_m3 222 rfl
theorem q808 : (Jvm.Cond.fieldLink "java/lang/Integer" (87 : Nat) "java/lang/Integer" "DigitTens" "[B") ∈ lw_all := lw_g (lw_at lw_m3 223 rfl) rfl
theorem q809 : (Jvm.Cond.laysStatic "java/lang/Integer" "DigitTens" "[B") ∈ lw_tbl := lw_at lw_m3 224 rfl
theorem q1165 : (Jvm.Cond.static ({ cls := "java/lang/Integer", name := "numberOfLeadingZeros", desc := "(I)I" } : Jvm.MethodName)) ∈ lw_all := lw_g (lw_at lw_m5 100 rfl) rfl
theorem q1166 : (Jvm.Cond.code ({ cls := "java/lang/Integer", name := "numberOfLeadingZeros", desc := "(I)I" } : Jvm.MethodName) prog_24_method_47_code (2 : Nat) (Option.some Jvm.ClassFile.FieldType.int)) ∈ lw_all := lw_g (lw_at lw_m5 101 rfl) rfl
theorem q1167 : (Jvm.Cond.constant "java/lang/Integer" (264 : Nat) (65536 : Int32)) ∈ lw_all := lw_g (lw_at lw_m5 102 rfl) rfl
theorem q2158 : (Jvm.Cond.castable "java/lang/Integer" "java/lang/Object") ∈ lw_tbl := lw_at lw_m9 133 rfl
theorem in_J5 : ∀ w ∈ wsJ50, w ∈ lw_all := lw_in wsJ50 [336] (by decide +kernel) (by decide +kernel)
/-! java/util/BitSet -/
set_option maxRecDepth 100000
def RJ6 : String := "java/util/BitSet"
def TJ6 : u_T := fun k => match k with
  | 0 => ("java/util/BitSet", "words", "[J", false)
  | 1 => ("java/util/BitSet", "wordsInUse", "I", false)
  | _ => ("java/util/BitSet", "sizeIsSticky", "Z", false)
def tyJ6 : Nat → FieldType := fun k => match k with
  | 0 => .array .long
  | 1 => .int
  | _ => .boolean
abbrev wsJ60 : List Cond := u_ws RJ6 TJ6 3
theorem nmJ6 : ∀ a, a < 3 → ∀ b, b < 3 → a ≠ b → (TJ6 a).2.1 ≠ (TJ6 b).2.1 := by decide +kernel
theorem tyJ6_ok : ∀ k, k < 3 → parseFieldDescriptor (TJ6 k).2.2.1 = some (tyJ6 k) := by decide +kernel
abbrev cJ6_init : ByteArray := prog_43_method_4_code
def yJ6_init : MethodName := ⟨RJ6, "<init>", "()V"⟩
def dkwJ6_init_1 : List UInt8 := [181, 0, 24, 177]
abbrev dktJ6_init_1 : List UInt8 := dkwJ6_init_1 ++ []
def dkwJ6_init_0 : List UInt8 := [42, 183, 0, 21, 42, 3, 181, 0, 7, 42, 3, 181, 0, 24, 42, 16, 64, 182, 0, 27, 42, 3]
abbrev dktJ6_init_0 : List UInt8 := dkwJ6_init_0 ++ dktJ6_init_1
theorem dksJ6_init_0 : cJ6_init.data.toList.drop 0 = dktJ6_init_0 := by decide +kernel
theorem dksJ6_init_1 : cJ6_init.data.toList.drop 22 = dktJ6_init_1 := dk_seg dksJ6_init_0 22 rfl rfl
theorem dJ6_init_0 : decode cJ6_init 0 = .ok (.aload_n 0, 1) := dk_42 (dk_at dksJ6_init_0 0 rfl rfl)
theorem dJ6_init_1 : decode cJ6_init 1 = .ok (.invokespecial 21, 3) := dk_183 0 21 (dk_at dksJ6_init_0 1 rfl rfl)
theorem dJ6_init_4 : decode cJ6_init 4 = .ok (.aload_n 0, 1) := dk_42 (dk_at dksJ6_init_0 4 rfl rfl)
theorem dJ6_init_5 : decode cJ6_init 5 = .ok (.iconst 0, 1) := dk_3 (dk_at dksJ6_init_0 5 rfl rfl)
theorem dJ6_init_6 : decode cJ6_init 6 = .ok (.putfield 7, 3) := dk_181 0 7 (dk_at dksJ6_init_0 6 rfl rfl)
theorem dJ6_init_9 : decode cJ6_init 9 = .ok (.aload_n 0, 1) := dk_42 (dk_at dksJ6_init_0 9 rfl rfl)
theorem dJ6_init_10 : decode cJ6_init 10 = .ok (.iconst 0, 1) := dk_3 (dk_at dksJ6_init_0 10 rfl rfl)
theorem dJ6_init_11 : decode cJ6_init 11 = .ok (.putfield 24, 3) := dk_181 0 24 (dk_at dksJ6_init_0 11 rfl rfl)
theorem dJ6_init_14 : decode cJ6_init 14 = .ok (.aload_n 0, 1) := dk_42 (dk_at dksJ6_init_0 14 rfl rfl)
theorem dJ6_init_15 : decode cJ6_init 15 = .ok (.bipush 64, 2) := dk_16 64 (dk_at dksJ6_init_0 15 rfl rfl)
theorem dJ6_init_17 : decode cJ6_init 17 = .ok (.invokevirtual 27, 3) := dk_182 0 27 (dk_at dksJ6_init_0 17 rfl rfl)
theorem dJ6_init_20 : decode cJ6_init 20 = .ok (.aload_n 0, 1) := dk_42 (dk_at dksJ6_init_0 20 rfl rfl)
theorem dJ6_init_21 : decode cJ6_init 21 = .ok (.iconst 0, 1) := dk_3 (dk_at dksJ6_init_0 21 rfl rfl)
theorem dJ6_init_22 : decode cJ6_init 22 = .ok (.putfield 24, 3) := dk_181 0 24 (dk_at dksJ6_init_1 0 rfl rfl)
theorem dJ6_init_25 : decode cJ6_init 25 = .ok (.return_, 1) := dk_177 (dk_at dksJ6_init_1 3 rfl rfl)
abbrev cJ6_initWords : ByteArray := prog_43_method_6_code
def yJ6_initWords : MethodName := ⟨RJ6, "initWords", "(I)V"⟩
def dkwJ6_initWords_0 : List UInt8 := [42, 27, 4, 100, 184, 0, 52, 4, 96, 188, 11, 181, 0, 11, 177]
abbrev dktJ6_initWords_0 : List UInt8 := dkwJ6_initWords_0 ++ []
theorem dksJ6_initWords_0 : cJ6_initWords.data.toList.drop 0 = dktJ6_initWords_0 := by decide +kernel
theorem dJ6_initWords_0 : decode cJ6_initWords 0 = .ok (.aload_n 0, 1) := dk_42 (dk_at dksJ6_initWords_0 0 rfl rfl)
theorem dJ6_initWords_1 : decode cJ6_initWords 1 = .ok (.iload_n 1, 1) := dk_27 (dk_at dksJ6_initWords_0 1 rfl rfl)
theorem dJ6_initWords_2 : decode cJ6_initWords 2 = .ok (.iconst 1, 1) := dk_4 (dk_at dksJ6_initWords_0 2 rfl rfl)
theorem dJ6_initWords_3 : decode cJ6_initWords 3 = .ok (.isub, 1) := dk_100 (dk_at dksJ6_initWords_0 3 rfl rfl)
theorem dJ6_initWords_4 : decode cJ6_initWords 4 = .ok (.invokestatic 52, 3) := dk_184 0 52 (dk_at dksJ6_initWords_0 4 rfl rfl)
theorem dJ6_initWords_7 : decode cJ6_initWords 7 = .ok (.iconst 1, 1) := dk_4 (dk_at dksJ6_initWords_0 7 rfl rfl)
theorem dJ6_initWords_8 : decode cJ6_initWords 8 = .ok (.iadd, 1) := dk_96 (dk_at dksJ6_initWords_0 8 rfl rfl)
theorem dJ6_initWords_9 : decode cJ6_initWords 9 = .ok (.newarray .long, 2) := dk_188_11 (dk_at dksJ6_initWords_0 9 rfl rfl)
theorem dJ6_initWords_11 : decode cJ6_initWords 11 = .ok (.putfield 11, 3) := dk_181 0 11 (dk_at dksJ6_initWords_0 11 rfl rfl)
theorem dJ6_initWords_14 : decode cJ6_initWords 14 = .ok (.return_, 1) := dk_177 (dk_at dksJ6_initWords_0 14 rfl rfl)
abbrev cJ6_wordIndex : ByteArray := prog_43_method_1_code
def yJ6_wordIndex : MethodName := ⟨RJ6, "wordIndex", "(I)I"⟩
def dkwJ6_wordIndex_0 : List UInt8 := [26, 16, 6, 122, 172]
abbrev dktJ6_wordIndex_0 : List UInt8 := dkwJ6_wordIndex_0 ++ []
theorem dksJ6_wordIndex_0 : cJ6_wordIndex.data.toList.drop 0 = dktJ6_wordIndex_0 := by decide +kernel
theorem dJ6_wordIndex_0 : decode cJ6_wordIndex 0 = .ok (.iload_n 0, 1) := dk_26 (dk_at dksJ6_wordIndex_0 0 rfl rfl)
theorem dJ6_wordIndex_1 : decode cJ6_wordIndex 1 = .ok (.bipush 6, 2) := dk_16 6 (dk_at dksJ6_wordIndex_0 1 rfl rfl)
theorem dJ6_wordIndex_3 : decode cJ6_wordIndex 3 = .ok (.ishr, 1) := dk_122 (dk_at dksJ6_wordIndex_0 3 rfl rfl)
theorem dJ6_wordIndex_4 : decode cJ6_wordIndex 4 = .ok (.ireturn, 1) := dk_172 (dk_at dksJ6_wordIndex_0 4 rfl rfl)
abbrev cJ6_clear : ByteArray := prog_43_method_25_code
def yJ6_clear : MethodName := ⟨RJ6, "clear", "()V"⟩
def dkwJ6_clear_1 : List UInt8 := [167, 255, 232, 177]
abbrev dktJ6_clear_1 : List UInt8 := dkwJ6_clear_1 ++ []
def dkwJ6_clear_0 : List UInt8 := [42, 180, 0, 7, 158, 0, 23, 42, 180, 0, 11, 42, 89, 180, 0, 7, 4, 100, 90, 181, 0, 7, 9, 80]
abbrev dktJ6_clear_0 : List UInt8 := dkwJ6_clear_0 ++ dktJ6_clear_1
theorem dksJ6_clear_0 : cJ6_clear.data.toList.drop 0 = dktJ6_clear_0 := by decide +kernel
theorem dksJ6_clear_1 : cJ6_clear.data.toList.drop 24 = dktJ6_clear_1 := dk_seg dksJ6_clear_0 24 rfl rfl
theorem dJ6_clear_0 : decode cJ6_clear 0 = .ok (.aload_n 0, 1) := dk_42 (dk_at dksJ6_clear_0 0 rfl rfl)
theorem dJ6_clear_1 : decode cJ6_clear 1 = .ok (.getfield 7, 3) := dk_180 0 7 (dk_at dksJ6_clear_0 1 rfl rfl)
theorem dJ6_clear_4 : decode cJ6_clear 4 = .ok (.ifCond .le 23, 3) := dk_158 0 23 (dk_at dksJ6_clear_0 4 rfl rfl)
theorem dJ6_clear_7 : decode cJ6_clear 7 = .ok (.aload_n 0, 1) := dk_42 (dk_at dksJ6_clear_0 7 rfl rfl)
theorem dJ6_clear_8 : decode cJ6_clear 8 = .ok (.getfield 11, 3) := dk_180 0 11 (dk_at dksJ6_clear_0 8 rfl rfl)
theorem dJ6_clear_11 : decode cJ6_clear 11 = .ok (.aload_n 0, 1) := dk_42 (dk_at dksJ6_clear_0 11 rfl rfl)
theorem dJ6_clear_12 : decode cJ6_clear 12 = .ok (.dup, 1) := dk_89 (dk_at dksJ6_clear_0 12 rfl rfl)
theorem dJ6_clear_13 : decode cJ6_clear 13 = .ok (.getfield 7, 3) := dk_180 0 7 (dk_at dksJ6_clear_0 13 rfl rfl)
theorem dJ6_clear_16 : decode cJ6_clear 16 = .ok (.iconst 1, 1) := dk_4 (dk_at dksJ6_clear_0 16 rfl rfl)
theorem dJ6_clear_17 : decode cJ6_clear 17 = .ok (.isub, 1) := dk_100 (dk_at dksJ6_clear_0 17 rfl rfl)
theorem dJ6_clear_18 : decode cJ6_clear 18 = .ok (.dup_x1, 1) := dk_90 (dk_at dksJ6_clear_0 18 rfl rfl)
theorem dJ6_clear_19 : decode cJ6_clear 19 = .ok (.putfield 7, 3) := dk_181 0 7 (dk_at dksJ6_clear_0 19 rfl rfl)
theorem dJ6_clear_22 : decode cJ6_clear 22 = .ok (.lconst 0, 1) := dk_9 (dk_at dksJ6_clear_0 22 rfl rfl)
theorem dJ6_clear_23 : decode cJ6_clear 23 = .ok (.lastore, 1) := dk_80 (dk_at dksJ6_clear_0 23 rfl rfl)
theorem dJ6_clear_24 : decode cJ6_clear 24 = .ok (.goto (-24), 3) := dk_167 255 232 (dk_at dksJ6_clear_1 0 rfl rfl)
theorem dJ6_clear_27 : decode cJ6_clear 27 = .ok (.return_, 1) := dk_177 (dk_at dksJ6_clear_1 3 rfl rfl)
abbrev cJ6_set : ByteArray := prog_43_method_20_code
def yJ6_set : MethodName := ⟨RJ6, "set", "(IZ)V"⟩
def dkwJ6_set_0 : List UInt8 := [28, 153, 0, 11, 42, 27, 182, 0, 167, 167, 0, 8, 42, 27, 182, 0, 170, 177]
abbrev dktJ6_set_0 : List UInt8 := dkwJ6_set_0 ++ []
theorem dksJ6_set_0 : cJ6_set.data.toList.drop 0 = dktJ6_set_0 := by decide +kernel
theorem dJ6_set_0 : decode cJ6_set 0 = .ok (.iload_n 2, 1) := dk_28 (dk_at dksJ6_set_0 0 rfl rfl)
theorem dJ6_set_1 : decode cJ6_set 1 = .ok (.ifCond .eq 11, 3) := dk_153 0 11 (dk_at dksJ6_set_0 1 rfl rfl)
theorem dJ6_set_4 : decode cJ6_set 4 = .ok (.aload_n 0, 1) := dk_42 (dk_at dksJ6_set_0 4 rfl rfl)
theorem dJ6_set_5 : decode cJ6_set 5 = .ok (.iload_n 1, 1) := dk_27 (dk_at dksJ6_set_0 5 rfl rfl)
theorem dJ6_set_6 : decode cJ6_set 6 = .ok (.invokevirtual 167, 3) := dk_182 0 167 (dk_at dksJ6_set_0 6 rfl rfl)
theorem dJ6_set_9 : decode cJ6_set 9 = .ok (.goto 8, 3) := dk_167 0 8 (dk_at dksJ6_set_0 9 rfl rfl)
theorem dJ6_set_12 : decode cJ6_set 12 = .ok (.aload_n 0, 1) := dk_42 (dk_at dksJ6_set_0 12 rfl rfl)
theorem dJ6_set_13 : decode cJ6_set 13 = .ok (.iload_n 1, 1) := dk_27 (dk_at dksJ6_set_0 13 rfl rfl)
theorem dJ6_set_14 : decode cJ6_set 14 = .ok (.invokevirtual 170, 3) := dk_182 0 170 (dk_at dksJ6_set_0 14 rfl rfl)
theorem dJ6_set_17 : decode cJ6_set 17 = .ok (.return_, 1) := dk_177 (dk_at dksJ6_set_0 17 rfl rfl)
abbrev cJ6_set_2 : ByteArray := prog_43_method_19_code
def yJ6_set_2 : MethodName := ⟨RJ6, "set", "(I)V"⟩
def dkwJ6_set_2_2 : List UInt8 := [10, 27, 121, 129, 80, 42, 182, 0, 56, 177]
abbrev dktJ6_set_2_2 : List UInt8 := dkwJ6_set_2_2 ++ []
def dkwJ6_set_2_1 : List UInt8 := [182, 0, 45, 183, 0, 146, 191, 27, 184, 0, 52, 61, 42, 28, 182, 0, 155, 42, 180, 0, 11, 28, 92, 47]
abbrev dktJ6_set_2_1 : List UInt8 := dkwJ6_set_2_1 ++ dktJ6_set_2_2
def dkwJ6_set_2_0 : List UInt8 := [27, 156, 0, 30, 187, 0, 142, 89, 187, 0, 33, 89, 183, 0, 35, 18, 153, 182, 0, 38, 27, 182, 0, 42]
abbrev dktJ6_set_2_0 : List UInt8 := dkwJ6_set_2_0 ++ dktJ6_set_2_1
theorem dksJ6_set_2_0 : cJ6_set_2.data.toList.drop 0 = dktJ6_set_2_0 := by decide +kernel
theorem dksJ6_set_2_1 : cJ6_set_2.data.toList.drop 24 = dktJ6_set_2_1 := dk_seg dksJ6_set_2_0 24 rfl rfl
theorem dksJ6_set_2_2 : cJ6_set_2.data.toList.drop 48 = dktJ6_set_2_2 := dk_seg dksJ6_set_2_1 24 rfl rfl
theorem dJ6_set_2_0 : decode cJ6_set_2 0 = .ok (.iload_n 1, 1) := dk_27 (dk_at dksJ6_set_2_0 0 rfl rfl)
theorem dJ6_set_2_1 : decode cJ6_set_2 1 = .ok (.ifCond .ge 30, 3) := dk_156 0 30 (dk_at dksJ6_set_2_0 1 rfl rfl)
theorem dJ6_set_2_4 : decode cJ6_set_2 4 = .ok (.new 142, 3) := dk_187 0 142 (dk_at dksJ6_set_2_0 4 rfl rfl)
theorem dJ6_set_2_7 : decode cJ6_set_2 7 = .ok (.dup, 1) := dk_89 (dk_at dksJ6_set_2_0 7 rfl rfl)
theorem dJ6_set_2_8 : decode cJ6_set_2 8 = .ok (.new 33, 3) := dk_187 0 33 (dk_at dksJ6_set_2_0 8 rfl rfl)
theorem dJ6_set_2_11 : decode cJ6_set_2 11 = .ok (.dup, 1) := dk_89 (dk_at dksJ6_set_2_0 11 rfl rfl)
theorem dJ6_set_2_12 : decode cJ6_set_2 12 = .ok (.invokespecial 35, 3) := dk_183 0 35 (dk_at dksJ6_set_2_0 12 rfl rfl)
theorem dJ6_set_2_15 : decode cJ6_set_2 15 = .ok (.ldc 153, 2) := dk_18 153 (dk_at dksJ6_set_2_0 15 rfl rfl)
theorem dJ6_set_2_17 : decode cJ6_set_2 17 = .ok (.invokevirtual 38, 3) := dk_182 0 38 (dk_at dksJ6_set_2_0 17 rfl rfl)
theorem dJ6_set_2_20 : decode cJ6_set_2 20 = .ok (.iload_n 1, 1) := dk_27 (dk_at dksJ6_set_2_0 20 rfl rfl)
theorem dJ6_set_2_21 : decode cJ6_set_2 21 = .ok (.invokevirtual 42, 3) := dk_182 0 42 (dk_at dksJ6_set_2_0 21 rfl rfl)
theorem dJ6_set_2_24 : decode cJ6_set_2 24 = .ok (.invokevirtual 45, 3) := dk_182 0 45 (dk_at dksJ6_set_2_1 0 rfl rfl)
theorem dJ6_set_2_27 : decode cJ6_set_2 27 = .ok (.invokespecial 146, 3) := dk_183 0 146 (dk_at dksJ6_set_2_1 3 rfl rfl)
theorem dJ6_set_2_30 : decode cJ6_set_2 30 = .ok (.athrow, 1) := dk_191 (dk_at dksJ6_set_2_1 6 rfl rfl)
theorem dJ6_set_2_31 : decode cJ6_set_2 31 = .ok (.iload_n 1, 1) := dk_27 (dk_at dksJ6_set_2_1 7 rfl rfl)
theorem dJ6_set_2_32 : decode cJ6_set_2 32 = .ok (.invokestatic 52, 3) := dk_184 0 52 (dk_at dksJ6_set_2_1 8 rfl rfl)
theorem dJ6_set_2_35 : decode cJ6_set_2 35 = .ok (.istore_n 2, 1) := dk_61 (dk_at dksJ6_set_2_1 11 rfl rfl)
theorem dJ6_set_2_36 : decode cJ6_set_2 36 = .ok (.aload_n 0, 1) := dk_42 (dk_at dksJ6_set_2_1 12 rfl rfl)
theorem dJ6_set_2_37 : decode cJ6_set_2 37 = .ok (.iload_n 2, 1) := dk_28 (dk_at dksJ6_set_2_1 13 rfl rfl)
theorem dJ6_set_2_38 : decode cJ6_set_2 38 = .ok (.invokevirtual 155, 3) := dk_182 0 155 (dk_at dksJ6_set_2_1 14 rfl rfl)
theorem dJ6_set_2_41 : decode cJ6_set_2 41 = .ok (.aload_n 0, 1) := dk_42 (dk_at dksJ6_set_2_1 17 rfl rfl)
theorem dJ6_set_2_42 : decode cJ6_set_2 42 = .ok (.getfield 11, 3) := dk_180 0 11 (dk_at dksJ6_set_2_1 18 rfl rfl)
theorem dJ6_set_2_45 : decode cJ6_set_2 45 = .ok (.iload_n 2, 1) := dk_28 (dk_at dksJ6_set_2_1 21 rfl rfl)
theorem dJ6_set_2_46 : decode cJ6_set_2 46 = .ok (.dup2, 1) := dk_92 (dk_at dksJ6_set_2_1 22 rfl rfl)
theorem dJ6_set_2_47 : decode cJ6_set_2 47 = .ok (.laload, 1) := dk_47 (dk_at dksJ6_set_2_1 23 rfl rfl)
theorem dJ6_set_2_48 : decode cJ6_set_2 48 = .ok (.lconst 1, 1) := dk_10 (dk_at dksJ6_set_2_2 0 rfl rfl)
theorem dJ6_set_2_49 : decode cJ6_set_2 49 = .ok (.iload_n 1, 1) := dk_27 (dk_at dksJ6_set_2_2 1 rfl rfl)
theorem dJ6_set_2_50 : decode cJ6_set_2 50 = .ok (.lshl, 1) := dk_121 (dk_at dksJ6_set_2_2 2 rfl rfl)
theorem dJ6_set_2_51 : decode cJ6_set_2 51 = .ok (.lor, 1) := dk_129 (dk_at dksJ6_set_2_2 3 rfl rfl)
theorem dJ6_set_2_52 : decode cJ6_set_2 52 = .ok (.lastore, 1) := dk_80 (dk_at dksJ6_set_2_2 4 rfl rfl)
theorem dJ6_set_2_53 : decode cJ6_set_2 53 = .ok (.aload_n 0, 1) := dk_42 (dk_at dksJ6_set_2_2 5 rfl rfl)
theorem dJ6_set_2_54 : decode cJ6_set_2 54 = .ok (.invokevirtual 56, 3) := dk_182 0 56 (dk_at dksJ6_set_2_2 6 rfl rfl)
theorem dJ6_set_2_57 : decode cJ6_set_2 57 = .ok (.return_, 1) := dk_177 (dk_at dksJ6_set_2_2 9 rfl rfl)
abbrev cJ6_expandTo : ByteArray := prog_43_method_15_code
def yJ6_expandTo : MethodName := ⟨RJ6, "expandTo", "(I)V"⟩
def dkwJ6_expandTo_0 : List UInt8 := [27, 4, 96, 61, 42, 180, 0, 7, 28, 162, 0, 13, 42, 28, 182, 0, 139, 42, 28, 181, 0, 7, 177]
abbrev dktJ6_expandTo_0 : List UInt8 := dkwJ6_expandTo_0 ++ []
theorem dksJ6_expandTo_0 : cJ6_expandTo.data.toList.drop 0 = dktJ6_expandTo_0 := by decide +kernel
theorem dJ6_expandTo_0 : decode cJ6_expandTo 0 = .ok (.iload_n 1, 1) := dk_27 (dk_at dksJ6_expandTo_0 0 rfl rfl)
theorem dJ6_expandTo_1 : decode cJ6_expandTo 1 = .ok (.iconst 1, 1) := dk_4 (dk_at dksJ6_expandTo_0 1 rfl rfl)
theorem dJ6_expandTo_2 : decode cJ6_expandTo 2 = .ok (.iadd, 1) := dk_96 (dk_at dksJ6_expandTo_0 2 rfl rfl)
theorem dJ6_expandTo_3 : decode cJ6_expandTo 3 = .ok (.istore_n 2, 1) := dk_61 (dk_at dksJ6_expandTo_0 3 rfl rfl)
theorem dJ6_expandTo_4 : decode cJ6_expandTo 4 = .ok (.aload_n 0, 1) := dk_42 (dk_at dksJ6_expandTo_0 4 rfl rfl)
theorem dJ6_expandTo_5 : decode cJ6_expandTo 5 = .ok (.getfield 7, 3) := dk_180 0 7 (dk_at dksJ6_expandTo_0 5 rfl rfl)
theorem dJ6_expandTo_8 : decode cJ6_expandTo 8 = .ok (.iload_n 2, 1) := dk_28 (dk_at dksJ6_expandTo_0 8 rfl rfl)
theorem dJ6_expandTo_9 : decode cJ6_expandTo 9 = .ok (.if_icmp .ge 13, 3) := dk_162 0 13 (dk_at dksJ6_expandTo_0 9 rfl rfl)
theorem dJ6_expandTo_12 : decode cJ6_expandTo 12 = .ok (.aload_n 0, 1) := dk_42 (dk_at dksJ6_expandTo_0 12 rfl rfl)
theorem dJ6_expandTo_13 : decode cJ6_expandTo 13 = .ok (.iload_n 2, 1) := dk_28 (dk_at dksJ6_expandTo_0 13 rfl rfl)
theorem dJ6_expandTo_14 : decode cJ6_expandTo 14 = .ok (.invokevirtual 139, 3) := dk_182 0 139 (dk_at dksJ6_expandTo_0 14 rfl rfl)
theorem dJ6_expandTo_17 : decode cJ6_expandTo 17 = .ok (.aload_n 0, 1) := dk_42 (dk_at dksJ6_expandTo_0 17 rfl rfl)
theorem dJ6_expandTo_18 : decode cJ6_expandTo 18 = .ok (.iload_n 2, 1) := dk_28 (dk_at dksJ6_expandTo_0 18 rfl rfl)
theorem dJ6_expandTo_19 : decode cJ6_expandTo 19 = .ok (.putfield 7, 3) := dk_181 0 7 (dk_at dksJ6_expandTo_0 19 rfl rfl)
theorem dJ6_expandTo_22 : decode cJ6_expandTo 22 = .ok (.return_, 1) := dk_177 (dk_at dksJ6_expandTo_0 22 rfl rfl)
abbrev cJ6_ensureCapacity : ByteArray := prog_43_method_14_code
def yJ6_ensureCapacity : MethodName := ⟨RJ6, "ensureCapacity", "(I)V"⟩
def dkwJ6_ensureCapacity_1 : List UInt8 := [180, 0, 11, 28, 184, 0, 59, 181, 0, 11, 42, 3, 181, 0, 24, 177]
abbrev dktJ6_ensureCapacity_1 : List UInt8 := dkwJ6_ensureCapacity_1 ++ []
def dkwJ6_ensureCapacity_0 : List UInt8 := [42, 180, 0, 11, 190, 27, 162, 0, 32, 5, 42, 180, 0, 11, 190, 104, 27, 184, 0, 133, 61, 42, 42]
abbrev dktJ6_ensureCapacity_0 : List UInt8 := dkwJ6_ensureCapacity_0 ++ dktJ6_ensureCapacity_1
theorem dksJ6_ensureCapacity_0 : cJ6_ensureCapacity.data.toList.drop 0 = dktJ6_ensureCapacity_0 := by decide +kernel
theorem dksJ6_ensureCapacity_1 : cJ6_ensureCapacity.data.toList.drop 23 = dktJ6_ensureCapacity_1 := dk_seg dksJ6_ensureCapacity_0 23 rfl rfl
theorem dJ6_ensureCapacity_0 : decode cJ6_ensureCapacity 0 = .ok (.aload_n 0, 1) := dk_42 (dk_at dksJ6_ensureCapacity_0 0 rfl rfl)
theorem dJ6_ensureCapacity_1 : decode cJ6_ensureCapacity 1 = .ok (.getfield 11, 3) := dk_180 0 11 (dk_at dksJ6_ensureCapacity_0 1 rfl rfl)
theorem dJ6_ensureCapacity_4 : decode cJ6_ensureCapacity 4 = .ok (.arraylength, 1) := dk_190 (dk_at dksJ6_ensureCapacity_0 4 rfl rfl)
theorem dJ6_ensureCapacity_5 : decode cJ6_ensureCapacity 5 = .ok (.iload_n 1, 1) := dk_27 (dk_at dksJ6_ensureCapacity_0 5 rfl rfl)
theorem dJ6_ensureCapacity_6 : decode cJ6_ensureCapacity 6 = .ok (.if_icmp .ge 32, 3) := dk_162 0 32 (dk_at dksJ6_ensureCapacity_0 6 rfl rfl)
theorem dJ6_ensureCapacity_9 : decode cJ6_ensureCapacity 9 = .ok (.iconst 2, 1) := dk_5 (dk_at dksJ6_ensureCapacity_0 9 rfl rfl)
theorem dJ6_ensureCapacity_10 : decode cJ6_ensureCapacity 10 = .ok (.aload_n 0, 1) := dk_42 (dk_at dksJ6_ensureCapacity_0 10 rfl rfl)
theorem dJ6_ensureCapacity_11 : decode cJ6_ensureCapacity 11 = .ok (.getfield 11, 3) := dk_180 0 11 (dk_at dksJ6_ensureCapacity_0 11 rfl rfl)
theorem dJ6_ensureCapacity_14 : decode cJ6_ensureCapacity 14 = .ok (.arraylength, 1) := dk_190 (dk_at dksJ6_ensureCapacity_0 14 rfl rfl)
theorem dJ6_ensureCapacity_15 : decode cJ6_ensureCapacity 15 = .ok (.imul, 1) := dk_104 (dk_at dksJ6_ensureCapacity_0 15 rfl rfl)
theorem dJ6_ensureCapacity_16 : decode cJ6_ensureCapacity 16 = .ok (.iload_n 1, 1) := dk_27 (dk_at dksJ6_ensureCapacity_0 16 rfl rfl)
theorem dJ6_ensureCapacity_17 : decode cJ6_ensureCapacity 17 = .ok (.invokestatic 133, 3) := dk_184 0 133 (dk_at dksJ6_ensureCapacity_0 17 rfl rfl)
theorem dJ6_ensureCapacity_20 : decode cJ6_ensureCapacity 20 = .ok (.istore_n 2, 1) := dk_61 (dk_at dksJ6_ensureCapacity_0 20 rfl rfl)
theorem dJ6_ensureCapacity_21 : decode cJ6_ensureCapacity 21 = .ok (.aload_n 0, 1) := dk_42 (dk_at dksJ6_ensureCapacity_0 21 rfl rfl)
theorem dJ6_ensureCapacity_22 : decode cJ6_ensureCapacity 22 = .ok (.aload_n 0, 1) := dk_42 (dk_at dksJ6_ensureCapacity_0 22 rfl rfl)
theorem dJ6_ensureCapacity_23 : decode cJ6_ensureCapacity 23 = .ok (.getfield 11, 3) := dk_180 0 11 (dk_at dksJ6_ensureCapacity_1 0 rfl rfl)
theorem dJ6_ensureCapacity_26 : decode cJ6_ensureCapacity 26 = .ok (.iload_n 2, 1) := dk_28 (dk_at dksJ6_ensureCapacity_1 3 rfl rfl)
theorem dJ6_ensureCapacity_27 : decode cJ6_ensureCapacity 27 = .ok (.invokestatic 59, 3) := dk_184 0 59 (dk_at dksJ6_ensureCapacity_1 4 rfl rfl)
theorem dJ6_ensureCapacity_30 : decode cJ6_ensureCapacity 30 = .ok (.putfield 11, 3) := dk_181 0 11 (dk_at dksJ6_ensureCapacity_1 7 rfl rfl)
theorem dJ6_ensureCapacity_33 : decode cJ6_ensureCapacity 33 = .ok (.aload_n 0, 1) := dk_42 (dk_at dksJ6_ensureCapacity_1 10 rfl rfl)
theorem dJ6_ensureCapacity_34 : decode cJ6_ensureCapacity 34 = .ok (.iconst 0, 1) := dk_3 (dk_at dksJ6_ensureCapacity_1 11 rfl rfl)
theorem dJ6_ensureCapacity_35 : decode cJ6_ensureCapacity 35 = .ok (.putfield 24, 3) := dk_181 0 24 (dk_at dksJ6_ensureCapacity_1 12 rfl rfl)
theorem dJ6_ensureCapacity_38 : decode cJ6_ensureCapacity 38 = .ok (.return_, 1) := dk_177 (dk_at dksJ6_ensureCapacity_1 15 rfl rfl)
abbrev cJ6_checkInvariants : ByteArray := prog_43_method_2_code
def yJ6_checkInvariants : MethodName := ⟨RJ6, "checkInvariants", "()V"⟩
def dkwJ6_checkInvariants_4 : List UInt8 := [180, 0, 7, 47, 9, 148, 153, 0, 11, 187, 0, 15, 89, 183, 0, 17, 191, 177]
abbrev dktJ6_checkInvariants_4 : List UInt8 := dkwJ6_checkInvariants_4 ++ []
def dkwJ6_checkInvariants_3 : List UInt8 := [178, 0, 3, 154, 0, 37, 42, 180, 0, 7, 42, 180, 0, 11, 190, 159, 0, 25, 42, 180, 0, 11, 42]
abbrev dktJ6_checkInvariants_3 : List UInt8 := dkwJ6_checkInvariants_3 ++ dktJ6_checkInvariants_4
def dkwJ6_checkInvariants_2 : List UInt8 := [155, 0, 15, 42, 180, 0, 7, 42, 180, 0, 11, 190, 164, 0, 11, 187, 0, 15, 89, 183, 0, 17, 191]
abbrev dktJ6_checkInvariants_2 : List UInt8 := dkwJ6_checkInvariants_2 ++ dktJ6_checkInvariants_3
def dkwJ6_checkInvariants_1 : List UInt8 := [9, 148, 154, 0, 11, 187, 0, 15, 89, 183, 0, 17, 191, 178, 0, 3, 154, 0, 30, 42, 180, 0, 7]
abbrev dktJ6_checkInvariants_1 : List UInt8 := dkwJ6_checkInvariants_1 ++ dktJ6_checkInvariants_2
def dkwJ6_checkInvariants_0 : List UInt8 := [178, 0, 3, 154, 0, 34, 42, 180, 0, 7, 153, 0, 27, 42, 180, 0, 11, 42, 180, 0, 7, 4, 100, 47]
abbrev dktJ6_checkInvariants_0 : List UInt8 := dkwJ6_checkInvariants_0 ++ dktJ6_checkInvariants_1
theorem dksJ6_checkInvariants_0 : cJ6_checkInvariants.data.toList.drop 0 = dktJ6_checkInvariants_0 := by decide +kernel
theorem dksJ6_checkInvariants_1 : cJ6_checkInvariants.data.toList.drop 24 = dktJ6_checkInvariants_1 := dk_seg dksJ6_checkInvariants_0 24 rfl rfl
theorem dksJ6_checkInvariants_2 : cJ6_checkInvariants.data.toList.drop 47 = dktJ6_checkInvariants_2 := dk_seg dksJ6_checkInvariants_1 23 rfl rfl
theorem dksJ6_checkInvariants_3 : cJ6_checkInvariants.data.toList.drop 70 = dktJ6_checkInvariants_3 := dk_seg dksJ6_checkInvariants_2 23 rfl rfl
theorem dksJ6_checkInvariants_4 : cJ6_checkInvariants.data.toList.drop 93 = dktJ6_checkInvariants_4 := dk_seg dksJ6_checkInvariants_3 23 rfl rfl
theorem dJ6_checkInvariants_0 : decode cJ6_checkInvariants 0 = .ok (.getstatic 3, 3) := dk_178 0 3 (dk_at dksJ6_checkInvariants_0 0 rfl rfl)
theorem dJ6_checkInvariants_3 : decode cJ6_checkInvariants 3 = .ok (.ifCond .ne 34, 3) := dk_154 0 34 (dk_at dksJ6_checkInvariants_0 3 rfl rfl)
theorem dJ6_checkInvariants_6 : decode cJ6_checkInvariants 6 = .ok (.aload_n 0, 1) := dk_42 (dk_at dksJ6_checkInvariants_0 6 rfl rfl)
theorem dJ6_checkInvariants_7 : decode cJ6_checkInvariants 7 = .ok (.getfield 7, 3) := dk_180 0 7 (dk_at dksJ6_checkInvariants_0 7 rfl rfl)
theorem dJ6_checkInvariants_10 : decode cJ6_checkInvariants 10 = .ok (.ifCond .eq 27, 3) := dk_153 0 27 (dk_at dksJ6_checkInvariants_0 10 rfl rfl)
theorem dJ6_checkInvariants_13 : decode cJ6_checkInvariants 13 = .ok (.aload_n 0, 1) := dk_42 (dk_at dksJ6_checkInvariants_0 13 rfl rfl)
theorem dJ6_checkInvariants_14 : decode cJ6_checkInvariants 14 = .ok (.getfield 11, 3) := dk_180 0 11 (dk_at dksJ6_checkInvariants_0 14 rfl rfl)
theorem dJ6_checkInvariants_17 : decode cJ6_checkInvariants 17 = .ok (.aload_n 0, 1) := dk_42 (dk_at dksJ6_checkInvariants_0 17 rfl rfl)
theorem dJ6_checkInvariants_18 : decode cJ6_checkInvariants 18 = .ok (.getfield 7, 3) := dk_180 0 7 (dk_at dksJ6_checkInvariants_0 18 rfl rfl)
theorem dJ6_checkInvariants_21 : decode cJ6_checkInvariants 21 = .ok (.iconst 1, 1) := dk_4 (dk_at dksJ6_checkInvariants_0 21 rfl rfl)
theorem dJ6_checkInvariants_22 : decode cJ6_checkInvariants 22 = .ok (.isub, 1) := dk_100 (dk_at dksJ6_checkInvariants_0 22 rfl rfl)
theorem dJ6_checkInvariants_23 : decode cJ6_checkInvariants 23 = .ok (.laload, 1) := dk_47 (dk_at dksJ6_checkInvariants_0 23 rfl rfl)
theorem dJ6_checkInvariants_24 : decode cJ6_checkInvariants 24 = .ok (.lconst 0, 1) := dk_9 (dk_at dksJ6_checkInvariants_1 0 rfl rfl)
theorem dJ6_checkInvariants_25 : decode cJ6_checkInvariants 25 = .ok (.lcmp, 1) := dk_148 (dk_at dksJ6_checkInvariants_1 1 rfl rfl)
theorem dJ6_checkInvariants_26 : decode cJ6_checkInvariants 26 = .ok (.ifCond .ne 11, 3) := dk_154 0 11 (dk_at dksJ6_checkInvariants_1 2 rfl rfl)
theorem dJ6_checkInvariants_29 : decode cJ6_checkInvariants 29 = .ok (.new 15, 3) := dk_187 0 15 (dk_at dksJ6_checkInvariants_1 5 rfl rfl)
theorem dJ6_checkInvariants_32 : decode cJ6_checkInvariants 32 = .ok (.dup, 1) := dk_89 (dk_at dksJ6_checkInvariants_1 8 rfl rfl)
theorem dJ6_checkInvariants_33 : decode cJ6_checkInvariants 33 = .ok (.invokespecial 17, 3) := dk_183 0 17 (dk_at dksJ6_checkInvariants_1 9 rfl rfl)
theorem dJ6_checkInvariants_36 : decode cJ6_checkInvariants 36 = .ok (.athrow, 1) := dk_191 (dk_at dksJ6_checkInvariants_1 12 rfl rfl)
theorem dJ6_checkInvariants_37 : decode cJ6_checkInvariants 37 = .ok (.getstatic 3, 3) := dk_178 0 3 (dk_at dksJ6_checkInvariants_1 13 rfl rfl)
theorem dJ6_checkInvariants_40 : decode cJ6_checkInvariants 40 = .ok (.ifCond .ne 30, 3) := dk_154 0 30 (dk_at dksJ6_checkInvariants_1 16 rfl rfl)
theorem dJ6_checkInvariants_43 : decode cJ6_checkInvariants 43 = .ok (.aload_n 0, 1) := dk_42 (dk_at dksJ6_checkInvariants_1 19 rfl rfl)
theorem dJ6_checkInvariants_44 : decode cJ6_checkInvariants 44 = .ok (.getfield 7, 3) := dk_180 0 7 (dk_at dksJ6_checkInvariants_1 20 rfl rfl)
theorem dJ6_checkInvariants_47 : decode cJ6_checkInvariants 47 = .ok (.ifCond .lt 15, 3) := dk_155 0 15 (dk_at dksJ6_checkInvariants_2 0 rfl rfl)
theorem dJ6_checkInvariants_50 : decode cJ6_checkInvariants 50 = .ok (.aload_n 0, 1) := dk_42 (dk_at dksJ6_checkInvariants_2 3 rfl rfl)
theorem dJ6_checkInvariants_51 : decode cJ6_checkInvariants 51 = .ok (.getfield 7, 3) := dk_180 0 7 (dk_at dksJ6_checkInvariants_2 4 rfl rfl)
theorem dJ6_checkInvariants_54 : decode cJ6_checkInvariants 54 = .ok (.aload_n 0, 1) := dk_42 (dk_at dksJ6_checkInvariants_2 7 rfl rfl)
theorem dJ6_checkInvariants_55 : decode cJ6_checkInvariants 55 = .ok (.getfield 11, 3) := dk_180 0 11 (dk_at dksJ6_checkInvariants_2 8 rfl rfl)
theorem dJ6_checkInvariants_58 : decode cJ6_checkInvariants 58 = .ok (.arraylength, 1) := dk_190 (dk_at dksJ6_checkInvariants_2 11 rfl rfl)
theorem dJ6_checkInvariants_59 : decode cJ6_checkInvariants 59 = .ok (.if_icmp .le 11, 3) := dk_164 0 11 (dk_at dksJ6_checkInvariants_2 12 rfl rfl)
theorem dJ6_checkInvariants_62 : decode cJ6_checkInvariants 62 = .ok (.new 15, 3) := dk_187 0 15 (dk_at dksJ6_checkInvariants_2 15 rfl rfl)
theorem dJ6_checkInvariants_65 : decode cJ6_checkInvariants 65 = .ok (.dup, 1) := dk_89 (dk_at dksJ6_checkInvariants_2 18 rfl rfl)
theorem dJ6_checkInvariants_66 : decode cJ6_checkInvariants 66 = .ok (.invokespecial 17, 3) := dk_183 0 17 (dk_at dksJ6_checkInvariants_2 19 rfl rfl)
theorem dJ6_checkInvariants_69 : decode cJ6_checkInvariants 69 = .ok (.athrow, 1) := dk_191 (dk_at dksJ6_checkInvariants_2 22 rfl rfl)
theorem dJ6_checkInvariants_70 : decode cJ6_checkInvariants 70 = .ok (.getstatic 3, 3) := dk_178 0 3 (dk_at dksJ6_checkInvariants_3 0 rfl rfl)
theorem dJ6_checkInvariants_73 : decode cJ6_checkInvariants 73 = .ok (.ifCond .ne 37, 3) := dk_154 0 37 (dk_at dksJ6_checkInvariants_3 3 rfl rfl)
theorem dJ6_checkInvariants_76 : decode cJ6_checkInvariants 76 = .ok (.aload_n 0, 1) := dk_42 (dk_at dksJ6_checkInvariants_3 6 rfl rfl)
theorem dJ6_checkInvariants_77 : decode cJ6_checkInvariants 77 = .ok (.getfield 7, 3) := dk_180 0 7 (dk_at dksJ6_checkInvariants_3 7 rfl rfl)
theorem dJ6_checkInvariants_80 : decode cJ6_checkInvariants 80 = .ok (.aload_n 0, 1) := dk_42 (dk_at dksJ6_checkInvariants_3 10 rfl rfl)
theorem dJ6_checkInvariants_81 : decode cJ6_checkInvariants 81 = .ok (.getfield 11, 3) := dk_180 0 11 (dk_at dksJ6_checkInvariants_3 11 rfl rfl)
theorem dJ6_checkInvariants_84 : decode cJ6_checkInvariants 84 = .ok (.arraylength, 1) := dk_190 (dk_at dksJ6_checkInvariants_3 14 rfl rfl)
theorem dJ6_checkInvariants_85 : decode cJ6_checkInvariants 85 = .ok (.if_icmp .eq 25, 3) := dk_159 0 25 (dk_at dksJ6_checkInvariants_3 15 rfl rfl)
theorem dJ6_checkInvariants_88 : decode cJ6_checkInvariants 88 = .ok (.aload_n 0, 1) := dk_42 (dk_at dksJ6_checkInvariants_3 18 rfl rfl)
theorem dJ6_checkInvariants_89 : decode cJ6_checkInvariants 89 = .ok (.getfield 11, 3) := dk_180 0 11 (dk_at dksJ6_checkInvariants_3 19 rfl rfl)
theorem dJ6_checkInvariants_92 : decode cJ6_checkInvariants 92 = .ok (.aload_n 0, 1) := dk_42 (dk_at dksJ6_checkInvariants_3 22 rfl rfl)
theorem dJ6_checkInvariants_93 : decode cJ6_checkInvariants 93 = .ok (.getfield 7, 3) := dk_180 0 7 (dk_at dksJ6_checkInvariants_4 0 rfl rfl)
theorem dJ6_checkInvariants_96 : decode cJ6_checkInvariants 96 = .ok (.laload, 1) := dk_47 (dk_at dksJ6_checkInvariants_4 3 rfl rfl)
theorem dJ6_checkInvariants_97 : decode cJ6_checkInvariants 97 = .ok (.lconst 0, 1) := dk_9 (dk_at dksJ6_checkInvariants_4 4 rfl rfl)
theorem dJ6_checkInvariants_98 : decode cJ6_checkInvariants 98 = .ok (.lcmp, 1) := dk_148 (dk_at dksJ6_checkInvariants_4 5 rfl rfl)
theorem dJ6_checkInvariants_99 : decode cJ6_checkInvariants 99 = .ok (.ifCond .eq 11, 3) := dk_153 0 11 (dk_at dksJ6_checkInvariants_4 6 rfl rfl)
theorem dJ6_checkInvariants_102 : decode cJ6_checkInvariants 102 = .ok (.new 15, 3) := dk_187 0 15 (dk_at dksJ6_checkInvariants_4 9 rfl rfl)
theorem dJ6_checkInvariants_105 : decode cJ6_checkInvariants 105 = .ok (.dup, 1) := dk_89 (dk_at dksJ6_checkInvariants_4 12 rfl rfl)
theorem dJ6_checkInvariants_106 : decode cJ6_checkInvariants 106 = .ok (.invokespecial 17, 3) := dk_183 0 17 (dk_at dksJ6_checkInvariants_4 13 rfl rfl)
theorem dJ6_checkInvariants_109 : decode cJ6_checkInvariants 109 = .ok (.athrow, 1) := dk_191 (dk_at dksJ6_checkInvariants_4 16 rfl rfl)
theorem dJ6_checkInvariants_110 : decode cJ6_checkInvariants 110 = .ok (.return_, 1) := dk_177 (dk_at dksJ6_checkInvariants_4 17 rfl rfl)
abbrev cJ6_clear_2 : ByteArray := prog_43_method_23_code
def yJ6_clear_2 : MethodName := ⟨RJ6, "clear", "(I)V"⟩
def dkwJ6_clear_2_2 : List UInt8 := [180, 0, 11, 28, 92, 47, 10, 27, 121, 20, 0, 165, 131, 127, 80, 42, 182, 0, 158, 42, 182, 0, 56, 177]
abbrev dktJ6_clear_2_2 : List UInt8 := dkwJ6_clear_2_2 ++ []
def dkwJ6_clear_2_1 : List UInt8 := [182, 0, 45, 183, 0, 146, 191, 27, 184, 0, 52, 61, 28, 42, 180, 0, 7, 161, 0, 4, 177, 42]
abbrev dktJ6_clear_2_1 : List UInt8 := dkwJ6_clear_2_1 ++ dktJ6_clear_2_2
def dkwJ6_clear_2_0 : List UInt8 := [27, 156, 0, 30, 187, 0, 142, 89, 187, 0, 33, 89, 183, 0, 35, 18, 153, 182, 0, 38, 27, 182, 0, 42]
abbrev dktJ6_clear_2_0 : List UInt8 := dkwJ6_clear_2_0 ++ dktJ6_clear_2_1
theorem dksJ6_clear_2_0 : cJ6_clear_2.data.toList.drop 0 = dktJ6_clear_2_0 := by decide +kernel
theorem dksJ6_clear_2_1 : cJ6_clear_2.data.toList.drop 24 = dktJ6_clear_2_1 := dk_seg dksJ6_clear_2_0 24 rfl rfl
theorem dksJ6_clear_2_2 : cJ6_clear_2.data.toList.drop 46 = dktJ6_clear_2_2 := dk_seg dksJ6_clear_2_1 22 rfl rfl
theorem dJ6_clear_2_0 : decode cJ6_clear_2 0 = .ok (.iload_n 1, 1) := dk_27 (dk_at dksJ6_clear_2_0 0 rfl rfl)
theorem dJ6_clear_2_1 : decode cJ6_clear_2 1 = .ok (.ifCond .ge 30, 3) := dk_156 0 30 (dk_at dksJ6_clear_2_0 1 rfl rfl)
theorem dJ6_clear_2_4 : decode cJ6_clear_2 4 = .ok (.new 142, 3) := dk_187 0 142 (dk_at dksJ6_clear_2_0 4 rfl rfl)
theorem dJ6_clear_2_7 : decode cJ6_clear_2 7 = .ok (.dup, 1) := dk_89 (dk_at dksJ6_clear_2_0 7 rfl rfl)
theorem dJ6_clear_2_8 : decode cJ6_clear_2 8 = .ok (.new 33, 3) := dk_187 0 33 (dk_at dksJ6_clear_2_0 8 rfl rfl)
theorem dJ6_clear_2_11 : decode cJ6_clear_2 11 = .ok (.dup, 1) := dk_89 (dk_at dksJ6_clear_2_0 11 rfl rfl)
theorem dJ6_clear_2_12 : decode cJ6_clear_2 12 = .ok (.invokespecial 35, 3) := dk_183 0 35 (dk_at dksJ6_clear_2_0 12 rfl rfl)
theorem dJ6_clear_2_15 : decode cJ6_clear_2 15 = .ok (.ldc 153, 2) := dk_18 153 (dk_at dksJ6_clear_2_0 15 rfl rfl)
theorem dJ6_clear_2_17 : decode cJ6_clear_2 17 = .ok (.invokevirtual 38, 3) := dk_182 0 38 (dk_at dksJ6_clear_2_0 17 rfl rfl)
theorem dJ6_clear_2_20 : decode cJ6_clear_2 20 = .ok (.iload_n 1, 1) := dk_27 (dk_at dksJ6_clear_2_0 20 rfl rfl)
theorem dJ6_clear_2_21 : decode cJ6_clear_2 21 = .ok (.invokevirtual 42, 3) := dk_182 0 42 (dk_at dksJ6_clear_2_0 21 rfl rfl)
theorem dJ6_clear_2_24 : decode cJ6_clear_2 24 = .ok (.invokevirtual 45, 3) := dk_182 0 45 (dk_at dksJ6_clear_2_1 0 rfl rfl)
theorem dJ6_clear_2_27 : decode cJ6_clear_2 27 = .ok (.invokespecial 146, 3) := dk_183 0 146 (dk_at dksJ6_clear_2_1 3 rfl rfl)
theorem dJ6_clear_2_30 : decode cJ6_clear_2 30 = .ok (.athrow, 1) := dk_191 (dk_at dksJ6_clear_2_1 6 rfl rfl)
theorem dJ6_clear_2_31 : decode cJ6_clear_2 31 = .ok (.iload_n 1, 1) := dk_27 (dk_at dksJ6_clear_2_1 7 rfl rfl)
theorem dJ6_clear_2_32 : decode cJ6_clear_2 32 = .ok (.invokestatic 52, 3) := dk_184 0 52 (dk_at dksJ6_clear_2_1 8 rfl rfl)
theorem dJ6_clear_2_35 : decode cJ6_clear_2 35 = .ok (.istore_n 2, 1) := dk_61 (dk_at dksJ6_clear_2_1 11 rfl rfl)
theorem dJ6_clear_2_36 : decode cJ6_clear_2 36 = .ok (.iload_n 2, 1) := dk_28 (dk_at dksJ6_clear_2_1 12 rfl rfl)
theorem dJ6_clear_2_37 : decode cJ6_clear_2 37 = .ok (.aload_n 0, 1) := dk_42 (dk_at dksJ6_clear_2_1 13 rfl rfl)
theorem dJ6_clear_2_38 : decode cJ6_clear_2 38 = .ok (.getfield 7, 3) := dk_180 0 7 (dk_at dksJ6_clear_2_1 14 rfl rfl)
theorem dJ6_clear_2_41 : decode cJ6_clear_2 41 = .ok (.if_icmp .lt 4, 3) := dk_161 0 4 (dk_at dksJ6_clear_2_1 17 rfl rfl)
theorem dJ6_clear_2_44 : decode cJ6_clear_2 44 = .ok (.return_, 1) := dk_177 (dk_at dksJ6_clear_2_1 20 rfl rfl)
theorem dJ6_clear_2_45 : decode cJ6_clear_2 45 = .ok (.aload_n 0, 1) := dk_42 (dk_at dksJ6_clear_2_1 21 rfl rfl)
theorem dJ6_clear_2_46 : decode cJ6_clear_2 46 = .ok (.getfield 11, 3) := dk_180 0 11 (dk_at dksJ6_clear_2_2 0 rfl rfl)
theorem dJ6_clear_2_49 : decode cJ6_clear_2 49 = .ok (.iload_n 2, 1) := dk_28 (dk_at dksJ6_clear_2_2 3 rfl rfl)
theorem dJ6_clear_2_50 : decode cJ6_clear_2 50 = .ok (.dup2, 1) := dk_92 (dk_at dksJ6_clear_2_2 4 rfl rfl)
theorem dJ6_clear_2_51 : decode cJ6_clear_2 51 = .ok (.laload, 1) := dk_47 (dk_at dksJ6_clear_2_2 5 rfl rfl)
theorem dJ6_clear_2_52 : decode cJ6_clear_2 52 = .ok (.lconst 1, 1) := dk_10 (dk_at dksJ6_clear_2_2 6 rfl rfl)
theorem dJ6_clear_2_53 : decode cJ6_clear_2 53 = .ok (.iload_n 1, 1) := dk_27 (dk_at dksJ6_clear_2_2 7 rfl rfl)
theorem dJ6_clear_2_54 : decode cJ6_clear_2 54 = .ok (.lshl, 1) := dk_121 (dk_at dksJ6_clear_2_2 8 rfl rfl)
theorem dJ6_clear_2_55 : decode cJ6_clear_2 55 = .ok (.ldc2_w 165, 3) := dk_20 0 165 (dk_at dksJ6_clear_2_2 9 rfl rfl)
theorem dJ6_clear_2_58 : decode cJ6_clear_2 58 = .ok (.lxor, 1) := dk_131 (dk_at dksJ6_clear_2_2 12 rfl rfl)
theorem dJ6_clear_2_59 : decode cJ6_clear_2 59 = .ok (.land, 1) := dk_127 (dk_at dksJ6_clear_2_2 13 rfl rfl)
theorem dJ6_clear_2_60 : decode cJ6_clear_2 60 = .ok (.lastore, 1) := dk_80 (dk_at dksJ6_clear_2_2 14 rfl rfl)
theorem dJ6_clear_2_61 : decode cJ6_clear_2 61 = .ok (.aload_n 0, 1) := dk_42 (dk_at dksJ6_clear_2_2 15 rfl rfl)
theorem dJ6_clear_2_62 : decode cJ6_clear_2 62 = .ok (.invokevirtual 158, 3) := dk_182 0 158 (dk_at dksJ6_clear_2_2 16 rfl rfl)
theorem dJ6_clear_2_65 : decode cJ6_clear_2 65 = .ok (.aload_n 0, 1) := dk_42 (dk_at dksJ6_clear_2_2 19 rfl rfl)
theorem dJ6_clear_2_66 : decode cJ6_clear_2 66 = .ok (.invokevirtual 56, 3) := dk_182 0 56 (dk_at dksJ6_clear_2_2 20 rfl rfl)
theorem dJ6_clear_2_69 : decode cJ6_clear_2 69 = .ok (.return_, 1) := dk_177 (dk_at dksJ6_clear_2_2 23 rfl rfl)
abbrev cJ6_recalculateWordsInUse : ByteArray := prog_43_method_3_code
def yJ6_recalculateWordsInUse : MethodName := ⟨RJ6, "recalculateWordsInUse", "()V"⟩
def dkwJ6_recalculateWordsInUse_1 : List UInt8 := [167, 0, 9, 132, 1, 255, 167, 255, 235, 42, 27, 4, 96, 181, 0, 7, 177]
abbrev dktJ6_recalculateWordsInUse_1 : List UInt8 := dkwJ6_recalculateWordsInUse_1 ++ []
def dkwJ6_recalculateWordsInUse_0 : List UInt8 := [42, 180, 0, 7, 4, 100, 60, 27, 155, 0, 23, 42, 180, 0, 11, 27, 47, 9, 148, 153, 0, 6]
abbrev dktJ6_recalculateWordsInUse_0 : List UInt8 := dkwJ6_recalculateWordsInUse_0 ++ dktJ6_recalculateWordsInUse_1
theorem dksJ6_recalculateWordsInUse_0 : cJ6_recalculateWordsInUse.data.toList.drop 0 = dktJ6_recalculateWordsInUse_0 := by decide +kernel
theorem dksJ6_recalculateWordsInUse_1 : cJ6_recalculateWordsInUse.data.toList.drop 22 = dktJ6_recalculateWordsInUse_1 := dk_seg dksJ6_recalculateWordsInUse_0 22 rfl rfl
theorem dJ6_recalculateWordsInUse_0 : decode cJ6_recalculateWordsInUse 0 = .ok (.aload_n 0, 1) := dk_42 (dk_at dksJ6_recalculateWordsInUse_0 0 rfl rfl)
theorem dJ6_recalculateWordsInUse_1 : decode cJ6_recalculateWordsInUse 1 = .ok (.getfield 7, 3) := dk_180 0 7 (dk_at dksJ6_recalculateWordsInUse_0 1 rfl rfl)
theorem dJ6_recalculateWordsInUse_4 : decode cJ6_recalculateWordsInUse 4 = .ok (.iconst 1, 1) := dk_4 (dk_at dksJ6_recalculateWordsInUse_0 4 rfl rfl)
theorem dJ6_recalculateWordsInUse_5 : decode cJ6_recalculateWordsInUse 5 = .ok (.isub, 1) := dk_100 (dk_at dksJ6_recalculateWordsInUse_0 5 rfl rfl)
theorem dJ6_recalculateWordsInUse_6 : decode cJ6_recalculateWordsInUse 6 = .ok (.istore_n 1, 1) := dk_60 (dk_at dksJ6_recalculateWordsInUse_0 6 rfl rfl)
theorem dJ6_recalculateWordsInUse_7 : decode cJ6_recalculateWordsInUse 7 = .ok (.iload_n 1, 1) := dk_27 (dk_at dksJ6_recalculateWordsInUse_0 7 rfl rfl)
theorem dJ6_recalculateWordsInUse_8 : decode cJ6_recalculateWordsInUse 8 = .ok (.ifCond .lt 23, 3) := dk_155 0 23 (dk_at dksJ6_recalculateWordsInUse_0 8 rfl rfl)
theorem dJ6_recalculateWordsInUse_11 : decode cJ6_recalculateWordsInUse 11 = .ok (.aload_n 0, 1) := dk_42 (dk_at dksJ6_recalculateWordsInUse_0 11 rfl rfl)
theorem dJ6_recalculateWordsInUse_12 : decode cJ6_recalculateWordsInUse 12 = .ok (.getfield 11, 3) := dk_180 0 11 (dk_at dksJ6_recalculateWordsInUse_0 12 rfl rfl)
theorem dJ6_recalculateWordsInUse_15 : decode cJ6_recalculateWordsInUse 15 = .ok (.iload_n 1, 1) := dk_27 (dk_at dksJ6_recalculateWordsInUse_0 15 rfl rfl)
theorem dJ6_recalculateWordsInUse_16 : decode cJ6_recalculateWordsInUse 16 = .ok (.laload, 1) := dk_47 (dk_at dksJ6_recalculateWordsInUse_0 16 rfl rfl)
theorem dJ6_recalculateWordsInUse_17 : decode cJ6_recalculateWordsInUse 17 = .ok (.lconst 0, 1) := dk_9 (dk_at dksJ6_recalculateWordsInUse_0 17 rfl rfl)
theorem dJ6_recalculateWordsInUse_18 : decode cJ6_recalculateWordsInUse 18 = .ok (.lcmp, 1) := dk_148 (dk_at dksJ6_recalculateWordsInUse_0 18 rfl rfl)
theorem dJ6_recalculateWordsInUse_19 : decode cJ6_recalculateWordsInUse 19 = .ok (.ifCond .eq 6, 3) := dk_153 0 6 (dk_at dksJ6_recalculateWordsInUse_0 19 rfl rfl)
theorem dJ6_recalculateWordsInUse_22 : decode cJ6_recalculateWordsInUse 22 = .ok (.goto 9, 3) := dk_167 0 9 (dk_at dksJ6_recalculateWordsInUse_1 0 rfl rfl)
theorem dJ6_recalculateWordsInUse_25 : decode cJ6_recalculateWordsInUse 25 = .ok (.iinc 1 (-1), 3) := dk_132 1 255 (dk_at dksJ6_recalculateWordsInUse_1 3 rfl rfl)
theorem dJ6_recalculateWordsInUse_28 : decode cJ6_recalculateWordsInUse 28 = .ok (.goto (-21), 3) := dk_167 255 235 (dk_at dksJ6_recalculateWordsInUse_1 6 rfl rfl)
theorem dJ6_recalculateWordsInUse_31 : decode cJ6_recalculateWordsInUse 31 = .ok (.aload_n 0, 1) := dk_42 (dk_at dksJ6_recalculateWordsInUse_1 9 rfl rfl)
theorem dJ6_recalculateWordsInUse_32 : decode cJ6_recalculateWordsInUse 32 = .ok (.iload_n 1, 1) := dk_27 (dk_at dksJ6_recalculateWordsInUse_1 10 rfl rfl)
theorem dJ6_recalculateWordsInUse_33 : decode cJ6_recalculateWordsInUse 33 = .ok (.iconst 1, 1) := dk_4 (dk_at dksJ6_recalculateWordsInUse_1 11 rfl rfl)
theorem dJ6_recalculateWordsInUse_34 : decode cJ6_recalculateWordsInUse 34 = .ok (.iadd, 1) := dk_96 (dk_at dksJ6_recalculateWordsInUse_1 12 rfl rfl)
theorem dJ6_recalculateWordsInUse_35 : decode cJ6_recalculateWordsInUse 35 = .ok (.putfield 7, 3) := dk_181 0 7 (dk_at dksJ6_recalculateWordsInUse_1 13 rfl rfl)
theorem dJ6_recalculateWordsInUse_38 : decode cJ6_recalculateWordsInUse 38 = .ok (.return_, 1) := dk_177 (dk_at dksJ6_recalculateWordsInUse_1 16 rfl rfl)
abbrev cJ6_get : ByteArray := prog_43_method_26_code
def yJ6_get : MethodName := ⟨RJ6, "get", "(I)Z"⟩
def dkwJ6_get_2 : List UInt8 := [42, 180, 0, 11, 28, 47, 10, 27, 121, 127, 9, 148, 153, 0, 7, 4, 167, 0, 4, 3, 172]
abbrev dktJ6_get_2 : List UInt8 := dkwJ6_get_2 ++ []
def dkwJ6_get_1 : List UInt8 := [182, 0, 45, 183, 0, 146, 191, 42, 182, 0, 56, 27, 184, 0, 52, 61, 28, 42, 180, 0, 7, 162, 0, 22]
abbrev dktJ6_get_1 : List UInt8 := dkwJ6_get_1 ++ dktJ6_get_2
def dkwJ6_get_0 : List UInt8 := [27, 156, 0, 30, 187, 0, 142, 89, 187, 0, 33, 89, 183, 0, 35, 18, 153, 182, 0, 38, 27, 182, 0, 42]
abbrev dktJ6_get_0 : List UInt8 := dkwJ6_get_0 ++ dktJ6_get_1
theorem dksJ6_get_0 : cJ6_get.data.toList.drop 0 = dktJ6_get_0 := by decide +kernel
theorem dksJ6_get_1 : cJ6_get.data.toList.drop 24 = dktJ6_get_1 := dk_seg dksJ6_get_0 24 rfl rfl
theorem dksJ6_get_2 : cJ6_get.data.toList.drop 48 = dktJ6_get_2 := dk_seg dksJ6_get_1 24 rfl rfl
theorem dJ6_get_0 : decode cJ6_get 0 = .ok (.iload_n 1, 1) := dk_27 (dk_at dksJ6_get_0 0 rfl rfl)
theorem dJ6_get_1 : decode cJ6_get 1 = .ok (.ifCond .ge 30, 3) := dk_156 0 30 (dk_at dksJ6_get_0 1 rfl rfl)
theorem dJ6_get_4 : decode cJ6_get 4 = .ok (.new 142, 3) := dk_187 0 142 (dk_at dksJ6_get_0 4 rfl rfl)
theorem dJ6_get_7 : decode cJ6_get 7 = .ok (.dup, 1) := dk_89 (dk_at dksJ6_get_0 7 rfl rfl)
theorem dJ6_get_8 : decode cJ6_get 8 = .ok (.new 33, 3) := dk_187 0 33 (dk_at dksJ6_get_0 8 rfl rfl)
theorem dJ6_get_11 : decode cJ6_get 11 = .ok (.dup, 1) := dk_89 (dk_at dksJ6_get_0 11 rfl rfl)
theorem dJ6_get_12 : decode cJ6_get 12 = .ok (.invokespecial 35, 3) := dk_183 0 35 (dk_at dksJ6_get_0 12 rfl rfl)
theorem dJ6_get_15 : decode cJ6_get 15 = .ok (.ldc 153, 2) := dk_18 153 (dk_at dksJ6_get_0 15 rfl rfl)
theorem dJ6_get_17 : decode cJ6_get 17 = .ok (.invokevirtual 38, 3) := dk_182 0 38 (dk_at dksJ6_get_0 17 rfl rfl)
theorem dJ6_get_20 : decode cJ6_get 20 = .ok (.iload_n 1, 1) := dk_27 (dk_at dksJ6_get_0 20 rfl rfl)
theorem dJ6_get_21 : decode cJ6_get 21 = .ok (.invokevirtual 42, 3) := dk_182 0 42 (dk_at dksJ6_get_0 21 rfl rfl)
theorem dJ6_get_24 : decode cJ6_get 24 = .ok (.invokevirtual 45, 3) := dk_182 0 45 (dk_at dksJ6_get_1 0 rfl rfl)
theorem dJ6_get_27 : decode cJ6_get 27 = .ok (.invokespecial 146, 3) := dk_183 0 146 (dk_at dksJ6_get_1 3 rfl rfl)
theorem dJ6_get_30 : decode cJ6_get 30 = .ok (.athrow, 1) := dk_191 (dk_at dksJ6_get_1 6 rfl rfl)
theorem dJ6_get_31 : decode cJ6_get 31 = .ok (.aload_n 0, 1) := dk_42 (dk_at dksJ6_get_1 7 rfl rfl)
theorem dJ6_get_32 : decode cJ6_get 32 = .ok (.invokevirtual 56, 3) := dk_182 0 56 (dk_at dksJ6_get_1 8 rfl rfl)
theorem dJ6_get_35 : decode cJ6_get 35 = .ok (.iload_n 1, 1) := dk_27 (dk_at dksJ6_get_1 11 rfl rfl)
theorem dJ6_get_36 : decode cJ6_get 36 = .ok (.invokestatic 52, 3) := dk_184 0 52 (dk_at dksJ6_get_1 12 rfl rfl)
theorem dJ6_get_39 : decode cJ6_get 39 = .ok (.istore_n 2, 1) := dk_61 (dk_at dksJ6_get_1 15 rfl rfl)
theorem dJ6_get_40 : decode cJ6_get 40 = .ok (.iload_n 2, 1) := dk_28 (dk_at dksJ6_get_1 16 rfl rfl)
theorem dJ6_get_41 : decode cJ6_get 41 = .ok (.aload_n 0, 1) := dk_42 (dk_at dksJ6_get_1 17 rfl rfl)
theorem dJ6_get_42 : decode cJ6_get 42 = .ok (.getfield 7, 3) := dk_180 0 7 (dk_at dksJ6_get_1 18 rfl rfl)
theorem dJ6_get_45 : decode cJ6_get 45 = .ok (.if_icmp .ge 22, 3) := dk_162 0 22 (dk_at dksJ6_get_1 21 rfl rfl)
theorem dJ6_get_48 : decode cJ6_get 48 = .ok (.aload_n 0, 1) := dk_42 (dk_at dksJ6_get_2 0 rfl rfl)
theorem dJ6_get_49 : decode cJ6_get 49 = .ok (.getfield 11, 3) := dk_180 0 11 (dk_at dksJ6_get_2 1 rfl rfl)
theorem dJ6_get_52 : decode cJ6_get 52 = .ok (.iload_n 2, 1) := dk_28 (dk_at dksJ6_get_2 4 rfl rfl)
theorem dJ6_get_53 : decode cJ6_get 53 = .ok (.laload, 1) := dk_47 (dk_at dksJ6_get_2 5 rfl rfl)
theorem dJ6_get_54 : decode cJ6_get 54 = .ok (.lconst 1, 1) := dk_10 (dk_at dksJ6_get_2 6 rfl rfl)
theorem dJ6_get_55 : decode cJ6_get 55 = .ok (.iload_n 1, 1) := dk_27 (dk_at dksJ6_get_2 7 rfl rfl)
theorem dJ6_get_56 : decode cJ6_get 56 = .ok (.lshl, 1) := dk_121 (dk_at dksJ6_get_2 8 rfl rfl)
theorem dJ6_get_57 : decode cJ6_get 57 = .ok (.land, 1) := dk_127 (dk_at dksJ6_get_2 9 rfl rfl)
theorem dJ6_get_58 : decode cJ6_get 58 = .ok (.lconst 0, 1) := dk_9 (dk_at dksJ6_get_2 10 rfl rfl)
theorem dJ6_get_59 : decode cJ6_get 59 = .ok (.lcmp, 1) := dk_148 (dk_at dksJ6_get_2 11 rfl rfl)
theorem dJ6_get_60 : decode cJ6_get 60 = .ok (.ifCond .eq 7, 3) := dk_153 0 7 (dk_at dksJ6_get_2 12 rfl rfl)
theorem dJ6_get_63 : decode cJ6_get 63 = .ok (.iconst 1, 1) := dk_4 (dk_at dksJ6_get_2 15 rfl rfl)
theorem dJ6_get_64 : decode cJ6_get 64 = .ok (.goto 4, 3) := dk_167 0 4 (dk_at dksJ6_get_2 16 rfl rfl)
theorem dJ6_get_67 : decode cJ6_get 67 = .ok (.iconst 0, 1) := dk_3 (dk_at dksJ6_get_2 19 rfl rfl)
theorem dJ6_get_68 : decode cJ6_get 68 = .ok (.ireturn, 1) := dk_172 (dk_at dksJ6_get_2 20 rfl rfl)
theorem q121 : (Jvm.Cond.initialized "java/util/BitSet") ∈ lw_all := lw_g (lw_at lw_m1 16 rfl) rfl
theorem q397 : (Jvm.Cond.instantiable "java/util/BitSet" (3 : Nat)) ∈ lw_all := lw_g (lw_at lw_m2 52 rfl) rfl
theorem q399 : (Jvm.Cond.instanceMethod ({ cls := "java/util/BitSet", name := "<init>", desc := "()V" } : Jvm.MethodName)) ∈ lw_all := lw_g (lw_at lw_m2 54 rfl) rfl
theorem q400 : (Jvm.Cond.code ({ cls := "java/util/BitSet", name := "<init>", desc := "()V" } : Jvm.MethodName) prog_43_method_4_code (1 : Nat) (Option.none : Option Jvm.ClassFile.FieldType)) ∈ lw_all := lw_g (lw_at lw_m2 55 rfl) rfl
theorem q401 : (Jvm.Cond.methodLink "java/util/BitSet" (21 : Nat) ({ cls := "java/lang/Object", name := "<init>", desc := "()V" } : Jvm.MethodName)) ∈ lw_all := lw_g (lw_at lw_m2 56 rfl) rfl
theorem q402 : (Jvm.Cond.methodLink "java/util/BitSet" (27 : Nat) ({ cls := "java/util/BitSet", name := "initWords", desc := "(I)V" } : Jvm.MethodName)) ∈ lw_all := lw_g (lw_at lw_m2 57 rfl) rfl
theorem q403 : (Jvm.Cond.privateMethod ({ cls := "java/util/BitSet", name := "initWords", desc := "(I)V" } : Jvm.MethodName)) ∈ lw_tbl := lw_at lw_m2 58 rfl
theorem q404 : (Jvm.Cond.instanceMethod ({ cls := "java/util/BitSet", name := "initWords", desc := "(I)V" } : Jvm.MethodName)) ∈ lw_all := lw_g (lw_at lw_m2 59 rfl) rfl
theorem q405 : (Jvm.Cond.code ({ cls := "java/util/BitSet", name := "initWords", desc := "(I)V" } : Jvm.MethodName) prog_43_method_6_code (2 : Nat) (Option.none : Option Jvm.ClassFile.FieldType)) ∈ lw_all := lw_g (lw_at lw_m2 60 rfl) rfl
theorem q406 : (Jvm.Cond.methodLink "java/util/BitSet" (52 : Nat) ({ cls := "java/util/BitSet", name := "wordIndex", desc := "(I)I" } : Jvm.MethodName)) ∈ lw_all := lw_g (lw_at lw_m2 61 rfl) rfl
theorem q407 : (Jvm.Cond.static ({ cls := "java/util/BitSet", name := "wordIndex", desc := "(I)I" } : Jvm.MethodName)) ∈ lw_all := lw_g (lw_at lw_m2 62 rfl) rfl
theorem q408 : (Jvm.Cond.code ({ cls := "java/util/BitSet", name := "wordIndex", desc := "(I)I" } : Jvm.MethodName) prog_43_method_1_code (1 : Nat) (Option.some Jvm.ClassFile.FieldType.int)) ∈ lw_all := lw_g (lw_at lw_m2 63 rfl) rfl
theorem q409 : (Jvm.Cond.fieldLink "java/util/BitSet" (11 : Nat) "java/util/BitSet" "words" "[J") ∈ lw_all := lw_g (lw_at lw_m2 64 rfl) rfl
theorem q410 : (Jvm.Cond.fieldLink "java/util/BitSet" (7 : Nat) "java/util/BitSet" "wordsInUse" "I") ∈ lw_all := lw_g (lw_at lw_m2 65 rfl) rfl
theorem q411 : (Jvm.Cond.fieldLink "java/util/BitSet" (24 : Nat) "java/util/BitSet" "sizeIsSticky" "Z") ∈ lw_all := lw_g (lw_at lw_m2 66 rfl) rfl
theorem q412 : (Jvm.Cond.lays "java/util/BitSet" "java/util/BitSet" "words" "[J") ∈ lw_all := lw_g (lw_at lw_m2 67 rfl) rfl
theorem q413 : (Jvm.Cond.soleField "java/util/BitSet" "words") ∈ lw_all := lw_g (lw_at lw_m2 68 rfl) rfl
theorem q414 : (Jvm.Cond.lays "java/util/BitSet" "java/util/BitSet" "wordsInUse" "I") ∈ lw_all := lw_g (lw_at lw_m2 69 rfl) rfl
theorem q415 : (Jvm.Cond.soleField "java/util/BitSet" "wordsInUse") ∈ lw_all := lw_g (lw_at lw_m2 70 rfl) rfl
theorem q416 : (Jvm.Cond.lays "java/util/BitSet" "java/util/BitSet" "sizeIsSticky" "Z") ∈ lw_all := lw_g (lw_at lw_m2 71 rfl) rfl
theorem q417 : (Jvm.Cond.soleField "java/util/BitSet" "sizeIsSticky") ∈ lw_all := lw_g (lw_at lw_m2 72 rfl) rfl
theorem q418 : (Jvm.Cond.superclass "java/util/BitSet" "java/lang/Object") ∈ lw_all := lw_g (lw_at lw_m2 73 rfl) rfl
theorem q617 : (Jvm.Cond.selects "java/util/BitSet" ({ cls := "java/lang/Object", name := "getClass", desc := "()Ljava/lang/Class;" } : Jvm.MethodName) ({ cls := "java/lang/Object", name := "getClass", desc := "()Ljava/lang/Class;" } : Jvm.MethodName)) ∈ lw_all := lw_g (lw_at lw_m3 32 rfl) rfl
theorem q1092 : (Jvm.Cond.instanceMethod ({ cls := "java/util/BitSet", name := "clear", desc := "()V" } : Jvm.MethodName)) ∈ lw_all := lw_g (lw_at lw_m5 27 rfl) rfl
theorem q1093 : (Jvm.Cond.selects "java/util/BitSet" ({ cls := "java/util/BitSet", name := "clear", desc := "()V" } : Jvm.MethodName) ({ cls := "java/util/BitSet", name := "clear", desc := "()V" } : Jvm.MethodName)) ∈ lw_all := lw_g (lw_at lw_m5 28 rfl) rfl
theorem q1094 : (Jvm.Cond.code ({ cls := "java/util/BitSet", name := "clear", desc := "()V" } : Jvm.MethodName) prog_43_method_25_code (1 : Nat) (Option.none : Option Jvm.ClassFile.FieldType)) ∈ lw_all := lw_g (lw_at lw_m5 29 rfl) rfl
theorem q1103 : (Jvm.Cond.instanceMethod ({ cls := "java/util/BitSet", name := "set", desc := "(IZ)V" } : Jvm.MethodName)) ∈ lw_all := lw_g (lw_at lw_m5 38 rfl) rfl
theorem q1104 : (Jvm.Cond.selects "java/util/BitSet" ({ cls := "java/util/BitSet", name := "set", desc := "(IZ)V" } : Jvm.MethodName) ({ cls := "java/util/BitSet", name := "set", desc := "(IZ)V" } : Jvm.MethodName)) ∈ lw_all := lw_g (lw_at lw_m5 39 rfl) rfl
theorem q1105 : (Jvm.Cond.code ({ cls := "java/util/BitSet", name := "set", desc := "(IZ)V" } : Jvm.MethodName) prog_43_method_20_code (3 : Nat) (Option.none : Option Jvm.ClassFile.FieldType)) ∈ lw_all := lw_g (lw_at lw_m5 40 rfl) rfl
theorem q1106 : (Jvm.Cond.methodLink "java/util/BitSet" (167 : Nat) ({ cls := "java/util/BitSet", name := "set", desc := "(I)V" } : Jvm.MethodName)) ∈ lw_all := lw_g (lw_at lw_m5 41 rfl) rfl
theorem q1107 : (Jvm.Cond.instanceMethod ({ cls := "java/util/BitSet", name := "set", desc := "(I)V" } : Jvm.MethodName)) ∈ lw_all := lw_g (lw_at lw_m5 42 rfl) rfl
theorem q1108 : (Jvm.Cond.selects "java/util/BitSet" ({ cls := "java/util/BitSet", name := "set", desc := "(I)V" } : Jvm.MethodName) ({ cls := "java/util/BitSet", name := "set", desc := "(I)V" } : Jvm.MethodName)) ∈ lw_all := lw_g (lw_at lw_m5 43 rfl) rfl
theorem q1109 : (Jvm.Cond.code ({ cls := "java/util/BitSet", name := "set", desc := "(I)V" } : Jvm.MethodName) prog_43_method_19_code (3 : Nat) (Option.none : Option Jvm.ClassFile.FieldType)) ∈ lw_all := lw_g (lw_at lw_m5 44 rfl) rfl
theorem q1110 : (Jvm.Cond.classLink "java/util/BitSet" (142 : Nat) "java/lang/IndexOutOfBoundsException") ∈ lw_all := lw_g (lw_at lw_m5 45 rfl) rfl
theorem q1119 : (Jvm.Cond.classLink "java/util/BitSet" (33 : Nat) "java/lang/StringBuilder") ∈ lw_all := lw_g (lw_at lw_m5 54 rfl) rfl
theorem q1120 : (Jvm.Cond.methodLink "java/util/BitSet" (35 : Nat) ({ cls := "java/lang/StringBuilder", name := "<init>", desc := "()V" } : Jvm.MethodName)) ∈ lw_all := lw_g (lw_at lw_m5 55 rfl) rfl
theorem q1121 : (Jvm.Cond.stringRef "java/util/BitSet" (153 : Nat) "bitIndex < 0: ") ∈ lw_tbl := lw_at lw_m5 56 rfl
theorem q1122 : (Jvm.Cond.methodLink "java/util/BitSet" (38 : Nat) ({ cls := "java/lang/StringBuilder", name := "append", desc := "(Ljava/lang/String;)Ljava/lang/StringBuilder;" } : Jvm.MethodName)) ∈ lw_all := lw_g (lw_at lw_m5 57 rfl) rfl
theorem q1123 : (Jvm.Cond.methodLink "java/util/BitSet" (42 : Nat) ({ cls := "java/lang/StringBuilder", name := "append", desc := "(I)Ljava/lang/StringBuilder;" } : Jvm.MethodName)) ∈ lw_all := lw_g (lw_at lw_m5 58 rfl) rfl
theorem q1124 : (Jvm.Cond.methodLink "java/util/BitSet" (45 : Nat) ({ cls := "java/lang/StringBuilder", name := "toString", desc := "()Ljava/lang/String;" } : Jvm.MethodName)) ∈ lw_all := lw_g (lw_at lw_m5 59 rfl) rfl
theorem q1125 : (Jvm.Cond.methodLink "java/util/BitSet" (146 : Nat) ({ cls := "java/lang/IndexOutOfBoundsException", name := "<init>", desc := "(Ljava/lang/String;)V" } : Jvm.MethodName)) ∈ lw_all := lw_g (lw_at lw_m5 60 rfl) rfl
theorem q1128 : (Jvm.Cond.methodLink "java/util/BitSet" (155 : Nat) ({ cls := "java/util/BitSet", name := "expandTo", desc := "(I)V" } : Jvm.MethodName)) ∈ lw_all := lw_g (lw_at lw_m5 63 rfl) rfl
theorem q1129 : (Jvm.Cond.privateMethod ({ cls := "java/util/BitSet", name := "expandTo", desc := "(I)V" } : Jvm.MethodName)) ∈ lw_tbl := lw_at lw_m5 64 rfl
theorem q1130 : (Jvm.Cond.instanceMethod ({ cls := "java/util/BitSet", name := "expandTo", desc := "(I)V" } : Jvm.MethodName)) ∈ lw_all := lw_g (lw_at lw_m5 65 rfl) rfl
theorem q1131 : (Jvm.Cond.code ({ cls := "java/util/BitSet", name := "expandTo", desc := "(I)V" } : Jvm.MethodName) prog_43_method_15_code (3 : Nat) (Option.none : Option Jvm.ClassFile.FieldType)) ∈ lw_all := lw_g (lw_at lw_m5 66 rfl) rfl
theorem q1132 : (Jvm.Cond.methodLink "java/util/BitSet" (139 : Nat) ({ cls := "java/util/BitSet", name := "ensureCapacity", desc := "(I)V" } : Jvm.MethodName)) ∈ lw_all := lw_g (lw_at lw_m5 67 rfl) rfl
theorem q1133 : (Jvm.Cond.privateMethod ({ cls := "java/util/BitSet", name := "ensureCapacity", desc := "(I)V" } : Jvm.MethodName)) ∈ lw_tbl := lw_at lw_m5 68 rfl
theorem q1134 : (Jvm.Cond.instanceMethod ({ cls := "java/util/BitSet", name := "ensureCapacity", desc := "(I)V" } : Jvm.MethodName)) ∈ lw_all := lw_g (lw_at lw_m5 69 rfl) rfl
theorem q1135 : (Jvm.Cond.code ({ cls := "java/util/BitSet", name := "ensureCapacity", desc := "(I)V" } : Jvm.MethodName) prog_43_method_14_code (3 : Nat) (Option.none : Option Jvm.ClassFile.FieldType)) ∈ lw_all := lw_g (lw_at lw_m5 70 rfl) rfl
theorem q1136 : (Jvm.Cond.methodLink "java/util/BitSet" (133 : Nat) ({ cls := "java/lang/Math", name := "max", desc := "(II)I" } : Jvm.MethodName)) ∈ lw_all := lw_g (lw_at lw_m5 71 rfl) rfl
theorem q1137 : (Jvm.Cond.methodLink "java/util/BitSet" (59 : Nat) ({ cls := "java/util/Arrays", name := "copyOf", desc := "([JI)[J" } : Jvm.MethodName)) ∈ lw_all := lw_g (lw_at lw_m5 72 rfl) rfl
theorem q1145 : (Jvm.Cond.methodLink "java/util/BitSet" (56 : Nat) ({ cls := "java/util/BitSet", name := "checkInvariants", desc := "()V" } : Jvm.MethodName)) ∈ lw_all := lw_g (lw_at lw_m5 80 rfl) rfl
theorem q1146 : (Jvm.Cond.privateMethod ({ cls := "java/util/BitSet", name := "checkInvariants", desc := "()V" } : Jvm.MethodName)) ∈ lw_tbl := lw_at lw_m5 81 rfl
theorem q1147 : (Jvm.Cond.instanceMethod ({ cls := "java/util/BitSet", name := "checkInvariants", desc := "()V" } : Jvm.MethodName)) ∈ lw_all := lw_g (lw_at lw_m5 82 rfl) rfl
theorem q1148 : (Jvm.Cond.code ({ cls := "java/util/BitSet", name := "checkInvariants", desc := "()V" } : Jvm.MethodName) prog_43_method_2_code (1 : Nat) (Option.none : Option Jvm.ClassFile.FieldType)) ∈ lw_all := lw_g (lw_at lw_m5 83 rfl) rfl
theorem q1149 : (Jvm.Cond.fieldLink "java/util/BitSet" (3 : Nat) "java/util/BitSet" "$assertionsDisabled" "Z") ∈ lw_all := lw_g (lw_at lw_m5 84 rfl) rfl
theorem q1150 : (Jvm.Cond.laysStatic "java/util/BitSet" "$assertionsDisabled" "Z") ∈ lw_tbl := lw_at lw_m5 85 rfl
theorem q1151 : (Jvm.Cond.methodLink "java/util/BitSet" (170 : Nat) ({ cls := "java/util/BitSet", name := "clear", desc := "(I)V" } : Jvm.MethodName)) ∈ lw_all := lw_g (lw_at lw_m5 86 rfl) rfl
theorem q1152 : (Jvm.Cond.instanceMethod ({ cls := "java/util/BitSet", name := "clear", desc := "(I)V" } : Jvm.MethodName)) ∈ lw_all := lw_g (lw_at lw_m5 87 rfl) rfl
theorem q1153 : (Jvm.Cond.selects "java/util/BitSet" ({ cls := "java/util/BitSet", name := "clear", desc := "(I)V" } : Jvm.MethodName) ({ cls := "java/util/BitSet", name := "clear", desc := "(I)V" } : Jvm.MethodName)) ∈ lw_all := lw_g (lw_at lw_m5 88 rfl) rfl
theorem q1154 : (Jvm.Cond.code ({ cls := "java/util/BitSet", name := "clear", desc := "(I)V" } : Jvm.MethodName) prog_43_method_23_code (3 : Nat) (Option.none : Option Jvm.ClassFile.FieldType)) ∈ lw_all := lw_g (lw_at lw_m5 89 rfl) rfl
theorem q1155 : (Jvm.Cond.constantLong "java/util/BitSet" (165 : Nat) (-1 : Int64)) ∈ lw_all := lw_g (lw_at lw_m5 90 rfl) rfl
theorem q1156 : (Jvm.Cond.methodLink "java/util/BitSet" (158 : Nat) ({ cls := "java/util/BitSet", name := "recalculateWordsInUse", desc := "()V" } : Jvm.MethodName)) ∈ lw_all := lw_g (lw_at lw_m5 91 rfl) rfl
theorem q1157 : (Jvm.Cond.privateMethod ({ cls := "java/util/BitSet", name := "recalculateWordsInUse", desc := "()V" } : Jvm.MethodName)) ∈ lw_tbl := lw_at lw_m5 92 rfl
theorem q1158 : (Jvm.Cond.instanceMethod ({ cls := "java/util/BitSet", name := "recalculateWordsInUse", desc := "()V" } : Jvm.MethodName)) ∈ lw_all := lw_g (lw_at lw_m5 93 rfl) rfl
theorem q1159 : (Jvm.Cond.code ({ cls := "java/util/BitSet", name := "recalculateWordsInUse", desc := "()V" } : Jvm.MethodName) prog_43_method_3_code (2 : Nat) (Option.none : Option Jvm.ClassFile.FieldType)) ∈ lw_all := lw_g (lw_at lw_m5 94 rfl) rfl
theorem q1319 : (Jvm.Cond.instanceMethod ({ cls := "java/util/BitSet", name := "get", desc := "(I)Z" } : Jvm.MethodName)) ∈ lw_all := lw_g (lw_at lw_m6 14 rfl) rfl
theorem q1320 : (Jvm.Cond.selects "java/util/BitSet" ({ cls := "java/util/BitSet", name := "get", desc := "(I)Z" } : Jvm.MethodName) ({ cls := "java/util/BitSet", name := "get", desc := "(I)Z" } : Jvm.MethodName)) ∈ lw_all := lw_g (lw_at lw_m6 15 rfl) rfl
theorem q1321 : (Jvm.Cond.code ({ cls := "java/util/BitSet", name := "get", desc := "(I)Z" } : Jvm.MethodName) prog_43_method_26_code (3 : Nat) (Option.some Jvm.ClassFile.FieldType.boolean)) ∈ lw_all := lw_g (lw_at lw_m6 16 rfl) rfl
theorem q2162 : (Jvm.Cond.castable "java/util/BitSet" "java/lang/Object") ∈ lw_tbl := lw_at lw_m9 137 rfl
theorem in_J6 : ∀ w ∈ wsJ60, w ∈ lw_all := lw_in wsJ60 [412, 414, 416] (by decide +kernel) (by decide +kernel)
/-! java/util/AbstractCollection -/
set_option maxRecDepth 100000
def RJ7 : String := "java/util/AbstractCollection"
abbrev cJ7_init : ByteArray := prog_39_method_1_code
def yJ7_init : MethodName := ⟨RJ7, "<init>", "()V"⟩
theorem dJ7_init_0 : decode cJ7_init 0 = .ok (.aload_n 0, 1) := by decide +kernel
theorem dJ7_init_1 : decode cJ7_init 1 = .ok (.invokespecial 1, 3) := by decide +kernel
theorem dJ7_init_4 : decode cJ7_init 4 = .ok (.return_, 1) := by decide +kernel
theorem q122 : (Jvm.Cond.initialized "java/util/AbstractCollection") ∈ lw_all := lw_g (lw_at lw_m1 17 rfl) rfl
theorem q444 : (Jvm.Cond.instanceMethod ({ cls := "java/util/AbstractCollection", name := "<init>", desc := "()V" } : Jvm.MethodName)) ∈ lw_all := lw_g (lw_at lw_m2 99 rfl) rfl
theorem q445 : (Jvm.Cond.code ({ cls := "java/util/AbstractCollection", name := "<init>", desc := "()V" } : Jvm.MethodName) prog_39_method_1_code (1 : Nat) (Option.none : Option Jvm.ClassFile.FieldType)) ∈ lw_all := lw_g (lw_at lw_m2 100 rfl) rfl
theorem q446 : (Jvm.Cond.methodLink "java/util/AbstractCollection" (1 : Nat) ({ cls := "java/lang/Object", name := "<init>", desc := "()V" } : Jvm.MethodName)) ∈ lw_all := lw_g (lw_at lw_m2 101 rfl) rfl
/-! java/util/AbstractList -/
set_option maxRecDepth 100000
def RJ8 : String := "java/util/AbstractList"
abbrev cJ8_init : ByteArray := prog_40_method_1_code
def yJ8_init : MethodName := ⟨RJ8, "<init>", "()V"⟩
def dkwJ8_init_0 : List UInt8 := [42, 183, 0, 1, 42, 3, 181, 0, 7, 177]
abbrev dktJ8_init_0 : List UInt8 := dkwJ8_init_0 ++ []
theorem dksJ8_init_0 : cJ8_init.data.toList.drop 0 = dktJ8_init_0 := by decide +kernel
theorem dJ8_init_0 : decode cJ8_init 0 = .ok (.aload_n 0, 1) := dk_42 (dk_at dksJ8_init_0 0 rfl rfl)
theorem dJ8_init_1 : decode cJ8_init 1 = .ok (.invokespecial 1, 3) := dk_183 0 1 (dk_at dksJ8_init_0 1 rfl rfl)
theorem dJ8_init_4 : decode cJ8_init 4 = .ok (.aload_n 0, 1) := dk_42 (dk_at dksJ8_init_0 4 rfl rfl)
theorem dJ8_init_5 : decode cJ8_init 5 = .ok (.iconst 0, 1) := dk_3 (dk_at dksJ8_init_0 5 rfl rfl)
theorem dJ8_init_6 : decode cJ8_init 6 = .ok (.putfield 7, 3) := dk_181 0 7 (dk_at dksJ8_init_0 6 rfl rfl)
theorem dJ8_init_9 : decode cJ8_init 9 = .ok (.return_, 1) := dk_177 (dk_at dksJ8_init_0 9 rfl rfl)
theorem q123 : (Jvm.Cond.initialized "java/util/AbstractList") ∈ lw_all := lw_g (lw_at lw_m1 18 rfl) rfl
theorem q441 : (Jvm.Cond.instanceMethod ({ cls := "java/util/AbstractList", name := "<init>", desc := "()V" } : Jvm.MethodName)) ∈ lw_all := lw_g (lw_at lw_m2 96 rfl) rfl
theorem q442 : (Jvm.Cond.code ({ cls := "java/util/AbstractList", name := "<init>", desc := "()V" } : Jvm.MethodName) prog_40_method_1_code (1 : Nat) (Option.none : Option Jvm.ClassFile.FieldType)) ∈ lw_all := lw_g (lw_at lw_m2 97 rfl) rfl
theorem q443 : (Jvm.Cond.methodLink "java/util/AbstractList" (1 : Nat) ({ cls := "java/util/AbstractCollection", name := "<init>", desc := "()V" } : Jvm.MethodName)) ∈ lw_all := lw_g (lw_at lw_m2 98 rfl) rfl
theorem q451 : (Jvm.Cond.fieldLink "java/util/AbstractList" (7 : Nat) "java/util/AbstractList" "modCount" "I") ∈ lw_all := lw_g (lw_at lw_m2 106 rfl) rfl
theorem q459 : (Jvm.Cond.soleField "java/util/AbstractList" "modCount") ∈ lw_all := lw_g (lw_at lw_m2 114 rfl) rfl
/-! java/util/ArrayList -/
set_option maxRecDepth 100000
def RJ9 : String := "java/util/ArrayList"
def TJ9 : u_T := fun k => match k with
  | 0 => ("java/util/AbstractList", "modCount", "I", false)
  | 1 => ("java/util/ArrayList", "elementData", "[Ljava/lang/Object;", false)
  | _ => ("java/util/ArrayList", "size", "I", false)
def tyJ9 : Nat → FieldType := fun k => match k with
  | 0 => .int
  | 1 => .array (.object "java/lang/Object")
  | _ => .int
abbrev wsJ90 : List Cond := u_ws RJ9 TJ9 3
theorem nmJ9 : ∀ a, a < 3 → ∀ b, b < 3 → a ≠ b → (TJ9 a).2.1 ≠ (TJ9 b).2.1 := by decide +kernel
theorem tyJ9_ok : ∀ k, k < 3 → parseFieldDescriptor (TJ9 k).2.2.1 = some (tyJ9 k) := by decide +kernel
abbrev cJ9_init : ByteArray := prog_41_method_2_code
def yJ9_init : MethodName := ⟨RJ9, "<init>", "()V"⟩
def dkwJ9_init_0 : List UInt8 := [42, 183, 0, 1, 42, 178, 0, 39, 181, 0, 9, 177]
abbrev dktJ9_init_0 : List UInt8 := dkwJ9_init_0 ++ []
theorem dksJ9_init_0 : cJ9_init.data.toList.drop 0 = dktJ9_init_0 := by decide +kernel
theorem dJ9_init_0 : decode cJ9_init 0 = .ok (.aload_n 0, 1) := dk_42 (dk_at dksJ9_init_0 0 rfl rfl)
theorem dJ9_init_1 : decode cJ9_init 1 = .ok (.invokespecial 1, 3) := dk_183 0 1 (dk_at dksJ9_init_0 1 rfl rfl)
theorem dJ9_init_4 : decode cJ9_init 4 = .ok (.aload_n 0, 1) := dk_42 (dk_at dksJ9_init_0 4 rfl rfl)
theorem dJ9_init_5 : decode cJ9_init 5 = .ok (.getstatic 39, 3) := dk_178 0 39 (dk_at dksJ9_init_0 5 rfl rfl)
theorem dJ9_init_8 : decode cJ9_init 8 = .ok (.putfield 9, 3) := dk_181 0 9 (dk_at dksJ9_init_0 8 rfl rfl)
theorem dJ9_init_11 : decode cJ9_init 11 = .ok (.return_, 1) := dk_177 (dk_at dksJ9_init_0 11 rfl rfl)
abbrev cJ9_size : ByteArray := prog_41_method_8_code
def yJ9_size : MethodName := ⟨RJ9, "size", "()I"⟩
theorem dJ9_size_0 : decode cJ9_size 0 = .ok (.aload_n 0, 1) := by decide +kernel
theorem dJ9_size_1 : decode cJ9_size 1 = .ok (.getfield 48, 3) := by decide +kernel
theorem dJ9_size_4 : decode cJ9_size 4 = .ok (.ireturn, 1) := by decide +kernel
abbrev cJ9_remove : ByteArray := prog_41_method_29_code
def yJ9_remove : MethodName := ⟨RJ9, "remove", "(I)Ljava/lang/Object;"⟩
def dkwJ9_remove_1 : List UInt8 := [45, 176]
abbrev dktJ9_remove_1 : List UInt8 := dkwJ9_remove_1 ++ []
def dkwJ9_remove_0 : List UInt8 := [27, 42, 180, 0, 48, 184, 0, 118, 87, 42, 180, 0, 9, 77, 44, 27, 50, 78, 42, 44, 27, 182, 0, 144]
abbrev dktJ9_remove_0 : List UInt8 := dkwJ9_remove_0 ++ dktJ9_remove_1
theorem dksJ9_remove_0 : cJ9_remove.data.toList.drop 0 = dktJ9_remove_0 := by decide +kernel
theorem dksJ9_remove_1 : cJ9_remove.data.toList.drop 24 = dktJ9_remove_1 := dk_seg dksJ9_remove_0 24 rfl rfl
theorem dJ9_remove_0 : decode cJ9_remove 0 = .ok (.iload_n 1, 1) := dk_27 (dk_at dksJ9_remove_0 0 rfl rfl)
theorem dJ9_remove_1 : decode cJ9_remove 1 = .ok (.aload_n 0, 1) := dk_42 (dk_at dksJ9_remove_0 1 rfl rfl)
theorem dJ9_remove_2 : decode cJ9_remove 2 = .ok (.getfield 48, 3) := dk_180 0 48 (dk_at dksJ9_remove_0 2 rfl rfl)
theorem dJ9_remove_5 : decode cJ9_remove 5 = .ok (.invokestatic 118, 3) := dk_184 0 118 (dk_at dksJ9_remove_0 5 rfl rfl)
theorem dJ9_remove_8 : decode cJ9_remove 8 = .ok (.pop, 1) := dk_87 (dk_at dksJ9_remove_0 8 rfl rfl)
theorem dJ9_remove_9 : decode cJ9_remove 9 = .ok (.aload_n 0, 1) := dk_42 (dk_at dksJ9_remove_0 9 rfl rfl)
theorem dJ9_remove_10 : decode cJ9_remove 10 = .ok (.getfield 9, 3) := dk_180 0 9 (dk_at dksJ9_remove_0 10 rfl rfl)
theorem dJ9_remove_13 : decode cJ9_remove 13 = .ok (.astore_n 2, 1) := dk_77 (dk_at dksJ9_remove_0 13 rfl rfl)
theorem dJ9_remove_14 : decode cJ9_remove 14 = .ok (.aload_n 2, 1) := dk_44 (dk_at dksJ9_remove_0 14 rfl rfl)
theorem dJ9_remove_15 : decode cJ9_remove 15 = .ok (.iload_n 1, 1) := dk_27 (dk_at dksJ9_remove_0 15 rfl rfl)
theorem dJ9_remove_16 : decode cJ9_remove 16 = .ok (.aaload, 1) := dk_50 (dk_at dksJ9_remove_0 16 rfl rfl)
theorem dJ9_remove_17 : decode cJ9_remove 17 = .ok (.astore_n 3, 1) := dk_78 (dk_at dksJ9_remove_0 17 rfl rfl)
theorem dJ9_remove_18 : decode cJ9_remove 18 = .ok (.aload_n 0, 1) := dk_42 (dk_at dksJ9_remove_0 18 rfl rfl)
theorem dJ9_remove_19 : decode cJ9_remove 19 = .ok (.aload_n 2, 1) := dk_44 (dk_at dksJ9_remove_0 19 rfl rfl)
theorem dJ9_remove_20 : decode cJ9_remove 20 = .ok (.iload_n 1, 1) := dk_27 (dk_at dksJ9_remove_0 20 rfl rfl)
theorem dJ9_remove_21 : decode cJ9_remove 21 = .ok (.invokevirtual 144, 3) := dk_182 0 144 (dk_at dksJ9_remove_0 21 rfl rfl)
theorem dJ9_remove_24 : decode cJ9_remove 24 = .ok (.aload_n 3, 1) := dk_45 (dk_at dksJ9_remove_1 0 rfl rfl)
theorem dJ9_remove_25 : decode cJ9_remove 25 = .ok (.areturn, 1) := dk_176 (dk_at dksJ9_remove_1 1 rfl rfl)
abbrev cJ9_fastRemove : ByteArray := prog_41_method_39_code
def yJ9_fastRemove : MethodName := ⟨RJ9, "fastRemove", "([Ljava/lang/Object;I)V"⟩
def dkwJ9_fastRemove_1 : List UInt8 := [4, 96, 43, 28, 29, 28, 100, 184, 0, 112, 43, 42, 29, 90, 181, 0, 48, 1, 83, 177]
abbrev dktJ9_fastRemove_1 : List UInt8 := dkwJ9_fastRemove_1 ++ []
def dkwJ9_fastRemove_0 : List UInt8 := [42, 89, 180, 0, 63, 4, 96, 181, 0, 63, 42, 180, 0, 48, 4, 100, 89, 62, 28, 164, 0, 15, 43, 28]
abbrev dktJ9_fastRemove_0 : List UInt8 := dkwJ9_fastRemove_0 ++ dktJ9_fastRemove_1
theorem dksJ9_fastRemove_0 : cJ9_fastRemove.data.toList.drop 0 = dktJ9_fastRemove_0 := by decide +kernel
theorem dksJ9_fastRemove_1 : cJ9_fastRemove.data.toList.drop 24 = dktJ9_fastRemove_1 := dk_seg dksJ9_fastRemove_0 24 rfl rfl
theorem dJ9_fastRemove_0 : decode cJ9_fastRemove 0 = .ok (.aload_n 0, 1) := dk_42 (dk_at dksJ9_fastRemove_0 0 rfl rfl)
theorem dJ9_fastRemove_1 : decode cJ9_fastRemove 1 = .ok (.dup, 1) := dk_89 (dk_at dksJ9_fastRemove_0 1 rfl rfl)
theorem dJ9_fastRemove_2 : decode cJ9_fastRemove 2 = .ok (.getfield 63, 3) := dk_180 0 63 (dk_at dksJ9_fastRemove_0 2 rfl rfl)
theorem dJ9_fastRemove_5 : decode cJ9_fastRemove 5 = .ok (.iconst 1, 1) := dk_4 (dk_at dksJ9_fastRemove_0 5 rfl rfl)
theorem dJ9_fastRemove_6 : decode cJ9_fastRemove 6 = .ok (.iadd, 1) := dk_96 (dk_at dksJ9_fastRemove_0 6 rfl rfl)
theorem dJ9_fastRemove_7 : decode cJ9_fastRemove 7 = .ok (.putfield 63, 3) := dk_181 0 63 (dk_at dksJ9_fastRemove_0 7 rfl rfl)
theorem dJ9_fastRemove_10 : decode cJ9_fastRemove 10 = .ok (.aload_n 0, 1) := dk_42 (dk_at dksJ9_fastRemove_0 10 rfl rfl)
theorem dJ9_fastRemove_11 : decode cJ9_fastRemove 11 = .ok (.getfield 48, 3) := dk_180 0 48 (dk_at dksJ9_fastRemove_0 11 rfl rfl)
theorem dJ9_fastRemove_14 : decode cJ9_fastRemove 14 = .ok (.iconst 1, 1) := dk_4 (dk_at dksJ9_fastRemove_0 14 rfl rfl)
theorem dJ9_fastRemove_15 : decode cJ9_fastRemove 15 = .ok (.isub, 1) := dk_100 (dk_at dksJ9_fastRemove_0 15 rfl rfl)
theorem dJ9_fastRemove_16 : decode cJ9_fastRemove 16 = .ok (.dup, 1) := dk_89 (dk_at dksJ9_fastRemove_0 16 rfl rfl)
theorem dJ9_fastRemove_17 : decode cJ9_fastRemove 17 = .ok (.istore_n 3, 1) := dk_62 (dk_at dksJ9_fastRemove_0 17 rfl rfl)
theorem dJ9_fastRemove_18 : decode cJ9_fastRemove 18 = .ok (.iload_n 2, 1) := dk_28 (dk_at dksJ9_fastRemove_0 18 rfl rfl)
theorem dJ9_fastRemove_19 : decode cJ9_fastRemove 19 = .ok (.if_icmp .le 15, 3) := dk_164 0 15 (dk_at dksJ9_fastRemove_0 19 rfl rfl)
theorem dJ9_fastRemove_22 : decode cJ9_fastRemove 22 = .ok (.aload_n 1, 1) := dk_43 (dk_at dksJ9_fastRemove_0 22 rfl rfl)
theorem dJ9_fastRemove_23 : decode cJ9_fastRemove 23 = .ok (.iload_n 2, 1) := dk_28 (dk_at dksJ9_fastRemove_0 23 rfl rfl)
theorem dJ9_fastRemove_24 : decode cJ9_fastRemove 24 = .ok (.iconst 1, 1) := dk_4 (dk_at dksJ9_fastRemove_1 0 rfl rfl)
theorem dJ9_fastRemove_25 : decode cJ9_fastRemove 25 = .ok (.iadd, 1) := dk_96 (dk_at dksJ9_fastRemove_1 1 rfl rfl)
theorem dJ9_fastRemove_26 : decode cJ9_fastRemove 26 = .ok (.aload_n 1, 1) := dk_43 (dk_at dksJ9_fastRemove_1 2 rfl rfl)
theorem dJ9_fastRemove_27 : decode cJ9_fastRemove 27 = .ok (.iload_n 2, 1) := dk_28 (dk_at dksJ9_fastRemove_1 3 rfl rfl)
theorem dJ9_fastRemove_28 : decode cJ9_fastRemove 28 = .ok (.iload_n 3, 1) := dk_29 (dk_at dksJ9_fastRemove_1 4 rfl rfl)
theorem dJ9_fastRemove_29 : decode cJ9_fastRemove 29 = .ok (.iload_n 2, 1) := dk_28 (dk_at dksJ9_fastRemove_1 5 rfl rfl)
theorem dJ9_fastRemove_30 : decode cJ9_fastRemove 30 = .ok (.isub, 1) := dk_100 (dk_at dksJ9_fastRemove_1 6 rfl rfl)
theorem dJ9_fastRemove_31 : decode cJ9_fastRemove 31 = .ok (.invokestatic 112, 3) := dk_184 0 112 (dk_at dksJ9_fastRemove_1 7 rfl rfl)
theorem dJ9_fastRemove_34 : decode cJ9_fastRemove 34 = .ok (.aload_n 1, 1) := dk_43 (dk_at dksJ9_fastRemove_1 10 rfl rfl)
theorem dJ9_fastRemove_35 : decode cJ9_fastRemove 35 = .ok (.aload_n 0, 1) := dk_42 (dk_at dksJ9_fastRemove_1 11 rfl rfl)
theorem dJ9_fastRemove_36 : decode cJ9_fastRemove 36 = .ok (.iload_n 3, 1) := dk_29 (dk_at dksJ9_fastRemove_1 12 rfl rfl)
theorem dJ9_fastRemove_37 : decode cJ9_fastRemove 37 = .ok (.dup_x1, 1) := dk_90 (dk_at dksJ9_fastRemove_1 13 rfl rfl)
theorem dJ9_fastRemove_38 : decode cJ9_fastRemove 38 = .ok (.putfield 48, 3) := dk_181 0 48 (dk_at dksJ9_fastRemove_1 14 rfl rfl)
theorem dJ9_fastRemove_41 : decode cJ9_fastRemove 41 = .ok (.aconst_null, 1) := dk_1 (dk_at dksJ9_fastRemove_1 17 rfl rfl)
theorem dJ9_fastRemove_42 : decode cJ9_fastRemove 42 = .ok (.aastore, 1) := dk_83 (dk_at dksJ9_fastRemove_1 18 rfl rfl)
theorem dJ9_fastRemove_43 : decode cJ9_fastRemove 43 = .ok (.return_, 1) := dk_177 (dk_at dksJ9_fastRemove_1 19 rfl rfl)
abbrev cJ9_add : ByteArray := prog_41_method_25_code
def yJ9_add : MethodName := ⟨RJ9, "add", "(Ljava/lang/Object;)Z"⟩
def dkwJ9_add_1 : List UInt8 := [172]
abbrev dktJ9_add_1 : List UInt8 := dkwJ9_add_1 ++ []
def dkwJ9_add_0 : List UInt8 := [42, 89, 180, 0, 63, 4, 96, 181, 0, 63, 42, 43, 42, 180, 0, 9, 42, 180, 0, 48, 182, 0, 131, 4]
abbrev dktJ9_add_0 : List UInt8 := dkwJ9_add_0 ++ dktJ9_add_1
theorem dksJ9_add_0 : cJ9_add.data.toList.drop 0 = dktJ9_add_0 := by decide +kernel
theorem dksJ9_add_1 : cJ9_add.data.toList.drop 24 = dktJ9_add_1 := dk_seg dksJ9_add_0 24 rfl rfl
theorem dJ9_add_0 : decode cJ9_add 0 = .ok (.aload_n 0, 1) := dk_42 (dk_at dksJ9_add_0 0 rfl rfl)
theorem dJ9_add_1 : decode cJ9_add 1 = .ok (.dup, 1) := dk_89 (dk_at dksJ9_add_0 1 rfl rfl)
theorem dJ9_add_2 : decode cJ9_add 2 = .ok (.getfield 63, 3) := dk_180 0 63 (dk_at dksJ9_add_0 2 rfl rfl)
theorem dJ9_add_5 : decode cJ9_add 5 = .ok (.iconst 1, 1) := dk_4 (dk_at dksJ9_add_0 5 rfl rfl)
theorem dJ9_add_6 : decode cJ9_add 6 = .ok (.iadd, 1) := dk_96 (dk_at dksJ9_add_0 6 rfl rfl)
theorem dJ9_add_7 : decode cJ9_add 7 = .ok (.putfield 63, 3) := dk_181 0 63 (dk_at dksJ9_add_0 7 rfl rfl)
theorem dJ9_add_10 : decode cJ9_add 10 = .ok (.aload_n 0, 1) := dk_42 (dk_at dksJ9_add_0 10 rfl rfl)
theorem dJ9_add_11 : decode cJ9_add 11 = .ok (.aload_n 1, 1) := dk_43 (dk_at dksJ9_add_0 11 rfl rfl)
theorem dJ9_add_12 : decode cJ9_add 12 = .ok (.aload_n 0, 1) := dk_42 (dk_at dksJ9_add_0 12 rfl rfl)
theorem dJ9_add_13 : decode cJ9_add 13 = .ok (.getfield 9, 3) := dk_180 0 9 (dk_at dksJ9_add_0 13 rfl rfl)
theorem dJ9_add_16 : decode cJ9_add 16 = .ok (.aload_n 0, 1) := dk_42 (dk_at dksJ9_add_0 16 rfl rfl)
theorem dJ9_add_17 : decode cJ9_add 17 = .ok (.getfield 48, 3) := dk_180 0 48 (dk_at dksJ9_add_0 17 rfl rfl)
theorem dJ9_add_20 : decode cJ9_add 20 = .ok (.invokevirtual 131, 3) := dk_182 0 131 (dk_at dksJ9_add_0 20 rfl rfl)
theorem dJ9_add_23 : decode cJ9_add 23 = .ok (.iconst 1, 1) := dk_4 (dk_at dksJ9_add_0 23 rfl rfl)
theorem dJ9_add_24 : decode cJ9_add 24 = .ok (.ireturn, 1) := dk_172 (dk_at dksJ9_add_1 0 rfl rfl)
abbrev cJ9_add_2 : ByteArray := prog_41_method_24_code
def yJ9_add_2 : MethodName := ⟨RJ9, "add", "(Ljava/lang/Object;[Ljava/lang/Object;I)V"⟩
def dkwJ9_add_2_0 : List UInt8 := [29, 44, 190, 160, 0, 8, 42, 182, 0, 129, 77, 44, 29, 43, 83, 42, 29, 4, 96, 181, 0, 48, 177]
abbrev dktJ9_add_2_0 : List UInt8 := dkwJ9_add_2_0 ++ []
theorem dksJ9_add_2_0 : cJ9_add_2.data.toList.drop 0 = dktJ9_add_2_0 := by decide +kernel
theorem dJ9_add_2_0 : decode cJ9_add_2 0 = .ok (.iload_n 3, 1) := dk_29 (dk_at dksJ9_add_2_0 0 rfl rfl)
theorem dJ9_add_2_1 : decode cJ9_add_2 1 = .ok (.aload_n 2, 1) := dk_44 (dk_at dksJ9_add_2_0 1 rfl rfl)
theorem dJ9_add_2_2 : decode cJ9_add_2 2 = .ok (.arraylength, 1) := dk_190 (dk_at dksJ9_add_2_0 2 rfl rfl)
theorem dJ9_add_2_3 : decode cJ9_add_2 3 = .ok (.if_icmp .ne 8, 3) := dk_160 0 8 (dk_at dksJ9_add_2_0 3 rfl rfl)
theorem dJ9_add_2_6 : decode cJ9_add_2 6 = .ok (.aload_n 0, 1) := dk_42 (dk_at dksJ9_add_2_0 6 rfl rfl)
theorem dJ9_add_2_7 : decode cJ9_add_2 7 = .ok (.invokevirtual 129, 3) := dk_182 0 129 (dk_at dksJ9_add_2_0 7 rfl rfl)
theorem dJ9_add_2_10 : decode cJ9_add_2 10 = .ok (.astore_n 2, 1) := dk_77 (dk_at dksJ9_add_2_0 10 rfl rfl)
theorem dJ9_add_2_11 : decode cJ9_add_2 11 = .ok (.aload_n 2, 1) := dk_44 (dk_at dksJ9_add_2_0 11 rfl rfl)
theorem dJ9_add_2_12 : decode cJ9_add_2 12 = .ok (.iload_n 3, 1) := dk_29 (dk_at dksJ9_add_2_0 12 rfl rfl)
theorem dJ9_add_2_13 : decode cJ9_add_2 13 = .ok (.aload_n 1, 1) := dk_43 (dk_at dksJ9_add_2_0 13 rfl rfl)
theorem dJ9_add_2_14 : decode cJ9_add_2 14 = .ok (.aastore, 1) := dk_83 (dk_at dksJ9_add_2_0 14 rfl rfl)
theorem dJ9_add_2_15 : decode cJ9_add_2 15 = .ok (.aload_n 0, 1) := dk_42 (dk_at dksJ9_add_2_0 15 rfl rfl)
theorem dJ9_add_2_16 : decode cJ9_add_2 16 = .ok (.iload_n 3, 1) := dk_29 (dk_at dksJ9_add_2_0 16 rfl rfl)
theorem dJ9_add_2_17 : decode cJ9_add_2 17 = .ok (.iconst 1, 1) := dk_4 (dk_at dksJ9_add_2_0 17 rfl rfl)
theorem dJ9_add_2_18 : decode cJ9_add_2 18 = .ok (.iadd, 1) := dk_96 (dk_at dksJ9_add_2_0 18 rfl rfl)
theorem dJ9_add_2_19 : decode cJ9_add_2 19 = .ok (.putfield 48, 3) := dk_181 0 48 (dk_at dksJ9_add_2_0 19 rfl rfl)
theorem dJ9_add_2_22 : decode cJ9_add_2 22 = .ok (.return_, 1) := dk_177 (dk_at dksJ9_add_2_0 22 rfl rfl)
abbrev cJ9_grow : ByteArray := prog_41_method_7_code
def yJ9_grow : MethodName := ⟨RJ9, "grow", "()[Ljava/lang/Object;"⟩
def dkwJ9_grow_0 : List UInt8 := [42, 42, 180, 0, 48, 4, 96, 182, 0, 69, 176]
abbrev dktJ9_grow_0 : List UInt8 := dkwJ9_grow_0 ++ []
theorem dksJ9_grow_0 : cJ9_grow.data.toList.drop 0 = dktJ9_grow_0 := by decide +kernel
theorem dJ9_grow_0 : decode cJ9_grow 0 = .ok (.aload_n 0, 1) := dk_42 (dk_at dksJ9_grow_0 0 rfl rfl)
theorem dJ9_grow_1 : decode cJ9_grow 1 = .ok (.aload_n 0, 1) := dk_42 (dk_at dksJ9_grow_0 1 rfl rfl)
theorem dJ9_grow_2 : decode cJ9_grow 2 = .ok (.getfield 48, 3) := dk_180 0 48 (dk_at dksJ9_grow_0 2 rfl rfl)
theorem dJ9_grow_5 : decode cJ9_grow 5 = .ok (.iconst 1, 1) := dk_4 (dk_at dksJ9_grow_0 5 rfl rfl)
theorem dJ9_grow_6 : decode cJ9_grow 6 = .ok (.iadd, 1) := dk_96 (dk_at dksJ9_grow_0 6 rfl rfl)
theorem dJ9_grow_7 : decode cJ9_grow 7 = .ok (.invokevirtual 69, 3) := dk_182 0 69 (dk_at dksJ9_grow_0 7 rfl rfl)
theorem dJ9_grow_10 : decode cJ9_grow 10 = .ok (.areturn, 1) := dk_176 (dk_at dksJ9_grow_0 10 rfl rfl)
abbrev cJ9_grow_2 : ByteArray := prog_41_method_6_code
def yJ9_grow_2 : MethodName := ⟨RJ9, "grow", "(I)[Ljava/lang/Object;"⟩
def dkwJ9_grow_2_2 : List UInt8 := [27, 184, 0, 79, 189, 0, 7, 90, 181, 0, 9, 176]
abbrev dktJ9_grow_2_2 : List UInt8 := dkwJ9_grow_2_2 ++ []
def dkwJ9_grow_2_1 : List UInt8 := [28, 4, 122, 184, 0, 73, 62, 42, 42, 180, 0, 9, 29, 184, 0, 66, 90, 181, 0, 9, 176, 42, 16, 10]
abbrev dktJ9_grow_2_1 : List UInt8 := dkwJ9_grow_2_1 ++ dktJ9_grow_2_2
def dkwJ9_grow_2_0 : List UInt8 := [42, 180, 0, 9, 190, 61, 28, 157, 0, 13, 42, 180, 0, 9, 178, 0, 39, 165, 0, 28, 28, 27, 28, 100]
abbrev dktJ9_grow_2_0 : List UInt8 := dkwJ9_grow_2_0 ++ dktJ9_grow_2_1
theorem dksJ9_grow_2_0 : cJ9_grow_2.data.toList.drop 0 = dktJ9_grow_2_0 := by decide +kernel
theorem dksJ9_grow_2_1 : cJ9_grow_2.data.toList.drop 24 = dktJ9_grow_2_1 := dk_seg dksJ9_grow_2_0 24 rfl rfl
theorem dksJ9_grow_2_2 : cJ9_grow_2.data.toList.drop 48 = dktJ9_grow_2_2 := dk_seg dksJ9_grow_2_1 24 rfl rfl
theorem dJ9_grow_2_0 : decode cJ9_grow_2 0 = .ok (.aload_n 0, 1) := dk_42 (dk_at dksJ9_grow_2_0 0 rfl rfl)
theorem dJ9_grow_2_1 : decode cJ9_grow_2 1 = .ok (.getfield 9, 3) := dk_180 0 9 (dk_at dksJ9_grow_2_0 1 rfl rfl)
theorem dJ9_grow_2_4 : decode cJ9_grow_2 4 = .ok (.arraylength, 1) := dk_190 (dk_at dksJ9_grow_2_0 4 rfl rfl)
theorem dJ9_grow_2_5 : decode cJ9_grow_2 5 = .ok (.istore_n 2, 1) := dk_61 (dk_at dksJ9_grow_2_0 5 rfl rfl)
theorem dJ9_grow_2_6 : decode cJ9_grow_2 6 = .ok (.iload_n 2, 1) := dk_28 (dk_at dksJ9_grow_2_0 6 rfl rfl)
theorem dJ9_grow_2_7 : decode cJ9_grow_2 7 = .ok (.ifCond .gt 13, 3) := dk_157 0 13 (dk_at dksJ9_grow_2_0 7 rfl rfl)
theorem dJ9_grow_2_10 : decode cJ9_grow_2 10 = .ok (.aload_n 0, 1) := dk_42 (dk_at dksJ9_grow_2_0 10 rfl rfl)
theorem dJ9_grow_2_11 : decode cJ9_grow_2 11 = .ok (.getfield 9, 3) := dk_180 0 9 (dk_at dksJ9_grow_2_0 11 rfl rfl)
theorem dJ9_grow_2_14 : decode cJ9_grow_2 14 = .ok (.getstatic 39, 3) := dk_178 0 39 (dk_at dksJ9_grow_2_0 14 rfl rfl)
theorem dJ9_grow_2_17 : decode cJ9_grow_2 17 = .ok (.if_acmp .eq 28, 3) := dk_165 0 28 (dk_at dksJ9_grow_2_0 17 rfl rfl)
theorem dJ9_grow_2_20 : decode cJ9_grow_2 20 = .ok (.iload_n 2, 1) := dk_28 (dk_at dksJ9_grow_2_0 20 rfl rfl)
theorem dJ9_grow_2_21 : decode cJ9_grow_2 21 = .ok (.iload_n 1, 1) := dk_27 (dk_at dksJ9_grow_2_0 21 rfl rfl)
theorem dJ9_grow_2_22 : decode cJ9_grow_2 22 = .ok (.iload_n 2, 1) := dk_28 (dk_at dksJ9_grow_2_0 22 rfl rfl)
theorem dJ9_grow_2_23 : decode cJ9_grow_2 23 = .ok (.isub, 1) := dk_100 (dk_at dksJ9_grow_2_0 23 rfl rfl)
theorem dJ9_grow_2_24 : decode cJ9_grow_2 24 = .ok (.iload_n 2, 1) := dk_28 (dk_at dksJ9_grow_2_1 0 rfl rfl)
theorem dJ9_grow_2_25 : decode cJ9_grow_2 25 = .ok (.iconst 1, 1) := dk_4 (dk_at dksJ9_grow_2_1 1 rfl rfl)
theorem dJ9_grow_2_26 : decode cJ9_grow_2 26 = .ok (.ishr, 1) := dk_122 (dk_at dksJ9_grow_2_1 2 rfl rfl)
theorem dJ9_grow_2_27 : decode cJ9_grow_2 27 = .ok (.invokestatic 73, 3) := dk_184 0 73 (dk_at dksJ9_grow_2_1 3 rfl rfl)
theorem dJ9_grow_2_30 : decode cJ9_grow_2 30 = .ok (.istore_n 3, 1) := dk_62 (dk_at dksJ9_grow_2_1 6 rfl rfl)
theorem dJ9_grow_2_31 : decode cJ9_grow_2 31 = .ok (.aload_n 0, 1) := dk_42 (dk_at dksJ9_grow_2_1 7 rfl rfl)
theorem dJ9_grow_2_32 : decode cJ9_grow_2 32 = .ok (.aload_n 0, 1) := dk_42 (dk_at dksJ9_grow_2_1 8 rfl rfl)
theorem dJ9_grow_2_33 : decode cJ9_grow_2 33 = .ok (.getfield 9, 3) := dk_180 0 9 (dk_at dksJ9_grow_2_1 9 rfl rfl)
theorem dJ9_grow_2_36 : decode cJ9_grow_2 36 = .ok (.iload_n 3, 1) := dk_29 (dk_at dksJ9_grow_2_1 12 rfl rfl)
theorem dJ9_grow_2_37 : decode cJ9_grow_2 37 = .ok (.invokestatic 66, 3) := dk_184 0 66 (dk_at dksJ9_grow_2_1 13 rfl rfl)
theorem dJ9_grow_2_40 : decode cJ9_grow_2 40 = .ok (.dup_x1, 1) := dk_90 (dk_at dksJ9_grow_2_1 16 rfl rfl)
theorem dJ9_grow_2_41 : decode cJ9_grow_2 41 = .ok (.putfield 9, 3) := dk_181 0 9 (dk_at dksJ9_grow_2_1 17 rfl rfl)
theorem dJ9_grow_2_44 : decode cJ9_grow_2 44 = .ok (.areturn, 1) := dk_176 (dk_at dksJ9_grow_2_1 20 rfl rfl)
theorem dJ9_grow_2_45 : decode cJ9_grow_2 45 = .ok (.aload_n 0, 1) := dk_42 (dk_at dksJ9_grow_2_1 21 rfl rfl)
theorem dJ9_grow_2_46 : decode cJ9_grow_2 46 = .ok (.bipush 10, 2) := dk_16 10 (dk_at dksJ9_grow_2_1 22 rfl rfl)
theorem dJ9_grow_2_48 : decode cJ9_grow_2 48 = .ok (.iload_n 1, 1) := dk_27 (dk_at dksJ9_grow_2_2 0 rfl rfl)
theorem dJ9_grow_2_49 : decode cJ9_grow_2 49 = .ok (.invokestatic 79, 3) := dk_184 0 79 (dk_at dksJ9_grow_2_2 1 rfl rfl)
theorem dJ9_grow_2_52 : decode cJ9_grow_2 52 = .ok (.anewarray 7, 3) := dk_189 0 7 (dk_at dksJ9_grow_2_2 4 rfl rfl)
theorem dJ9_grow_2_55 : decode cJ9_grow_2 55 = .ok (.dup_x1, 1) := dk_90 (dk_at dksJ9_grow_2_2 7 rfl rfl)
theorem dJ9_grow_2_56 : decode cJ9_grow_2 56 = .ok (.putfield 9, 3) := dk_181 0 9 (dk_at dksJ9_grow_2_2 8 rfl rfl)
theorem dJ9_grow_2_59 : decode cJ9_grow_2 59 = .ok (.areturn, 1) := dk_176 (dk_at dksJ9_grow_2_2 11 rfl rfl)
abbrev cJ9_isEmpty : ByteArray := prog_41_method_9_code
def yJ9_isEmpty : MethodName := ⟨RJ9, "isEmpty", "()Z"⟩
def dkwJ9_isEmpty_0 : List UInt8 := [42, 180, 0, 48, 154, 0, 7, 4, 167, 0, 4, 3, 172]
abbrev dktJ9_isEmpty_0 : List UInt8 := dkwJ9_isEmpty_0 ++ []
theorem dksJ9_isEmpty_0 : cJ9_isEmpty.data.toList.drop 0 = dktJ9_isEmpty_0 := by decide +kernel
theorem dJ9_isEmpty_0 : decode cJ9_isEmpty 0 = .ok (.aload_n 0, 1) := dk_42 (dk_at dksJ9_isEmpty_0 0 rfl rfl)
theorem dJ9_isEmpty_1 : decode cJ9_isEmpty 1 = .ok (.getfield 48, 3) := dk_180 0 48 (dk_at dksJ9_isEmpty_0 1 rfl rfl)
theorem dJ9_isEmpty_4 : decode cJ9_isEmpty 4 = .ok (.ifCond .ne 7, 3) := dk_154 0 7 (dk_at dksJ9_isEmpty_0 4 rfl rfl)
theorem dJ9_isEmpty_7 : decode cJ9_isEmpty 7 = .ok (.iconst 1, 1) := dk_4 (dk_at dksJ9_isEmpty_0 7 rfl rfl)
theorem dJ9_isEmpty_8 : decode cJ9_isEmpty 8 = .ok (.goto 4, 3) := dk_167 0 4 (dk_at dksJ9_isEmpty_0 8 rfl rfl)
theorem dJ9_isEmpty_11 : decode cJ9_isEmpty 11 = .ok (.iconst 0, 1) := dk_3 (dk_at dksJ9_isEmpty_0 11 rfl rfl)
theorem dJ9_isEmpty_12 : decode cJ9_isEmpty 12 = .ok (.ireturn, 1) := dk_172 (dk_at dksJ9_isEmpty_0 12 rfl rfl)
theorem q124 : (Jvm.Cond.initialized "java/util/ArrayList") ∈ lw_all := lw_g (lw_at lw_m1 19 rfl) rfl
theorem q436 : (Jvm.Cond.instantiable "java/util/ArrayList" (3 : Nat)) ∈ lw_all := lw_g (lw_at lw_m2 91 rfl) rfl
theorem q438 : (Jvm.Cond.instanceMethod ({ cls := "java/util/ArrayList", name := "<init>", desc := "()V" } : Jvm.MethodName)) ∈ lw_all := lw_g (lw_at lw_m2 93 rfl) rfl
theorem q439 : (Jvm.Cond.code ({ cls := "java/util/ArrayList", name := "<init>", desc := "()V" } : Jvm.MethodName) prog_41_method_2_code (1 : Nat) (Option.none : Option Jvm.ClassFile.FieldType)) ∈ lw_all := lw_g (lw_at lw_m2 94 rfl) rfl
theorem q440 : (Jvm.Cond.methodLink "java/util/ArrayList" (1 : Nat) ({ cls := "java/util/AbstractList", name := "<init>", desc := "()V" } : Jvm.MethodName)) ∈ lw_all := lw_g (lw_at lw_m2 95 rfl) rfl
theorem q447 : (Jvm.Cond.fieldLink "java/util/ArrayList" (39 : Nat) "java/util/ArrayList" "DEFAULTCAPACITY_EMPTY_ELEMENTDATA" "[Ljava/lang/Object;") ∈ lw_all := lw_g (lw_at lw_m2 102 rfl) rfl
theorem q448 : (Jvm.Cond.laysStatic "java/util/ArrayList" "DEFAULTCAPACITY_EMPTY_ELEMENTDATA" "[Ljava/lang/Object;") ∈ lw_tbl := lw_at lw_m2 103 rfl
theorem q449 : (Jvm.Cond.fieldLink "java/util/ArrayList" (9 : Nat) "java/util/ArrayList" "elementData" "[Ljava/lang/Object;") ∈ lw_all := lw_g (lw_at lw_m2 104 rfl) rfl
theorem q450 : (Jvm.Cond.fieldLink "java/util/ArrayList" (48 : Nat) "java/util/ArrayList" "size" "I") ∈ lw_all := lw_g (lw_at lw_m2 105 rfl) rfl
theorem q452 : (Jvm.Cond.fieldLink "java/util/ArrayList" (63 : Nat) "java/util/ArrayList" "modCount" "I") ∈ lw_all := lw_g (lw_at lw_m2 107 rfl) rfl
theorem q453 : (Jvm.Cond.sameField "java/util/ArrayList" "java/util/AbstractList" "modCount" "I") ∈ lw_all := lw_g (lw_at lw_m2 108 rfl) rfl
theorem q454 : (Jvm.Cond.lays "java/util/ArrayList" "java/util/ArrayList" "elementData" "[Ljava/lang/Object;") ∈ lw_all := lw_g (lw_at lw_m2 109 rfl) rfl
theorem q455 : (Jvm.Cond.soleField "java/util/ArrayList" "elementData") ∈ lw_all := lw_g (lw_at lw_m2 110 rfl) rfl
theorem q456 : (Jvm.Cond.lays "java/util/ArrayList" "java/util/ArrayList" "size" "I") ∈ lw_all := lw_g (lw_at lw_m2 111 rfl) rfl
theorem q457 : (Jvm.Cond.soleField "java/util/ArrayList" "size") ∈ lw_all := lw_g (lw_at lw_m2 112 rfl) rfl
theorem q458 : (Jvm.Cond.lays "java/util/ArrayList" "java/util/AbstractList" "modCount" "I") ∈ lw_all := lw_g (lw_at lw_m2 113 rfl) rfl
theorem q460 : (Jvm.Cond.superclass "java/util/ArrayList" "java/util/AbstractList") ∈ lw_all := lw_g (lw_at lw_m2 115 rfl) rfl
theorem q541 : (Jvm.Cond.instanceMethod ({ cls := "java/util/ArrayList", name := "size", desc := "()I" } : Jvm.MethodName)) ∈ lw_all := lw_g (lw_at lw_m2 196 rfl) rfl
theorem q542 : (Jvm.Cond.selects "java/util/ArrayList" ({ cls := "java/util/ArrayList", name := "size", desc := "()I" } : Jvm.MethodName) ({ cls := "java/util/ArrayList", name := "size", desc := "()I" } : Jvm.MethodName)) ∈ lw_all := lw_g (lw_at lw_m2 197 rfl) rfl
theorem q543 : (Jvm.Cond.code ({ cls := "java/util/ArrayList", name := "size", desc := "()I" } : Jvm.MethodName) prog_41_method_8_code (1 : Nat) (Option.some Jvm.ClassFile.FieldType.int)) ∈ lw_all := lw_g (lw_at lw_m2 198 rfl) rfl
theorem q545 : (Jvm.Cond.instanceMethod ({ cls := "java/util/ArrayList", name := "remove", desc := "(I)Ljava/lang/Object;" } : Jvm.MethodName)) ∈ lw_all := lw_g (lw_at lw_m2 200 rfl) rfl
theorem q546 : (Jvm.Cond.selects "java/util/ArrayList" ({ cls := "java/util/ArrayList", name := "remove", desc := "(I)Ljava/lang/Object;" } : Jvm.MethodName) ({ cls := "java/util/ArrayList", name := "remove", desc := "(I)Ljava/lang/Object;" } : Jvm.MethodName)) ∈ lw_all := lw_g (lw_at lw_m2 201 rfl) rfl
theorem q547 : (Jvm.Cond.code ({ cls := "java/util/ArrayList", name := "remove", desc := "(I)Ljava/lang/Object;" } : Jvm.MethodName) prog_41_method_29_code (4 : Nat) (Option.some (Jvm.ClassFile.FieldType.object "java/lang/Object"))) ∈ lw_all := lw_g (lw_at lw_m2 202 rfl) rfl
theorem q548 : (Jvm.Cond.methodLink "java/util/ArrayList" (118 : Nat) ({ cls := "java/util/Objects", name := "checkIndex", desc := "(II)I" } : Jvm.MethodName)) ∈ lw_all := lw_g (lw_at lw_m2 203 rfl) rfl
theorem q554 : (Jvm.Cond.methodLink "java/util/ArrayList" (144 : Nat) ({ cls := "java/util/ArrayList", name := "fastRemove", desc := "([Ljava/lang/Object;I)V" } : Jvm.MethodName)) ∈ lw_all := lw_g (lw_at lw_m2 209 rfl) rfl
theorem q555 : (Jvm.Cond.privateMethod ({ cls := "java/util/ArrayList", name := "fastRemove", desc := "([Ljava/lang/Object;I)V" } : Jvm.MethodName)) ∈ lw_tbl := lw_at lw_m2 210 rfl
theorem q556 : (Jvm.Cond.instanceMethod ({ cls := "java/util/ArrayList", name := "fastRemove", desc := "([Ljava/lang/Object;I)V" } : Jvm.MethodName)) ∈ lw_all := lw_g (lw_at lw_m2 211 rfl) rfl
theorem q557 : (Jvm.Cond.code ({ cls := "java/util/ArrayList", name := "fastRemove", desc := "([Ljava/lang/Object;I)V" } : Jvm.MethodName) prog_41_method_39_code (4 : Nat) (Option.none : Option Jvm.ClassFile.FieldType)) ∈ lw_all := lw_g (lw_at lw_m2 212 rfl) rfl
theorem q558 : (Jvm.Cond.methodLink "java/util/ArrayList" (112 : Nat) ({ cls := "java/lang/System", name := "arraycopy", desc := "(Ljava/lang/Object;ILjava/lang/Object;II)V" } : Jvm.MethodName)) ∈ lw_all := lw_g (lw_at lw_m2 213 rfl) rfl
theorem q567 : (Jvm.Cond.instanceMethod ({ cls := "java/util/ArrayList", name := "add", desc := "(Ljava/lang/Object;)Z" } : Jvm.MethodName)) ∈ lw_all := lw_g (lw_at lw_m2 222 rfl) rfl
theorem q568 : (Jvm.Cond.selects "java/util/ArrayList" ({ cls := "java/util/ArrayList", name := "add", desc := "(Ljava/lang/Object;)Z" } : Jvm.MethodName) ({ cls := "java/util/ArrayList", name := "add", desc := "(Ljava/lang/Object;)Z" } : Jvm.MethodName)) ∈ lw_all := lw_g (lw_at lw_m2 223 rfl) rfl
theorem q569 : (Jvm.Cond.code ({ cls := "java/util/ArrayList", name := "add", desc := "(Ljava/lang/Object;)Z" } : Jvm.MethodName) prog_41_method_25_code (2 : Nat) (Option.some Jvm.ClassFile.FieldType.boolean)) ∈ lw_all := lw_g (lw_at lw_m2 224 rfl) rfl
theorem q570 : (Jvm.Cond.methodLink "java/util/ArrayList" (131 : Nat) ({ cls := "java/util/ArrayList", name := "add", desc := "(Ljava/lang/Object;[Ljava/lang/Object;I)V" } : Jvm.MethodName)) ∈ lw_all := lw_g (lw_at lw_m2 225 rfl) rfl
theorem q571 : (Jvm.Cond.privateMethod ({ cls := "java/util/ArrayList", name := "add", desc := "(Ljava/lang/Object;[Ljava/lang/Object;I)V" } : Jvm.MethodName)) ∈ lw_tbl := lw_at lw_m2 226 rfl
theorem q572 : (Jvm.Cond.instanceMethod ({ cls := "java/util/ArrayList", name := "add", desc := "(Ljava/lang/Object;[Ljava/lang/Object;I)V" } : Jvm.MethodName)) ∈ lw_all := lw_g (lw_at lw_m2 227 rfl) rfl
theorem q573 : (Jvm.Cond.code ({ cls := "java/util/ArrayList", name := "add", desc := "(Ljava/lang/Object;[Ljava/lang/Object;I)V" } : Jvm.MethodName) prog_41_method_24_code (4 : Nat) (Option.none : Option Jvm.ClassFile.FieldType)) ∈ lw_all := lw_g (lw_at lw_m2 228 rfl) rfl
theorem q574 : (Jvm.Cond.methodLink "java/util/ArrayList" (129 : Nat) ({ cls := "java/util/ArrayList", name := "grow", desc := "()[Ljava/lang/Object;" } : Jvm.MethodName)) ∈ lw_all := lw_g (lw_at lw_m2 229 rfl) rfl
theorem q575 : (Jvm.Cond.privateMethod ({ cls := "java/util/ArrayList", name := "grow", desc := "()[Ljava/lang/Object;" } : Jvm.MethodName)) ∈ lw_tbl := lw_at lw_m2 230 rfl
theorem q576 : (Jvm.Cond.instanceMethod ({ cls := "java/util/ArrayList", name := "grow", desc := "()[Ljava/lang/Object;" } : Jvm.MethodName)) ∈ lw_all := lw_g (lw_at lw_m2 231 rfl) rfl
theorem q577 : (Jvm.Cond.code ({ cls := "java/util/ArrayList", name := "grow", desc := "()[Ljava/lang/Object;" } : Jvm.MethodName) prog_41_method_7_code (1 : Nat) (Option.some (Jvm.ClassFile.FieldType.array (Jvm.ClassFile.FieldType.object "java/lang/Object")))) ∈ lw_all := lw_g (lw_at lw_m2 232 rfl) rfl
theorem q578 : (Jvm.Cond.methodLink "java/util/ArrayList" (69 : Nat) ({ cls := "java/util/ArrayList", name := "grow", desc := "(I)[Ljava/lang/Object;" } : Jvm.MethodName)) ∈ lw_all := lw_g (lw_at lw_m2 233 rfl) rfl
theorem q579 : (Jvm.Cond.privateMethod ({ cls := "java/util/ArrayList", name := "grow", desc := "(I)[Ljava/lang/Object;" } : Jvm.MethodName)) ∈ lw_tbl := lw_at lw_m2 234 rfl
theorem q580 : (Jvm.Cond.instanceMethod ({ cls := "java/util/ArrayList", name := "grow", desc := "(I)[Ljava/lang/Object;" } : Jvm.MethodName)) ∈ lw_all := lw_g (lw_at lw_m2 235 rfl) rfl
theorem q581 : (Jvm.Cond.code ({ cls := "java/util/ArrayList", name := "grow", desc := "(I)[Ljava/lang/Object;" } : Jvm.MethodName) prog_41_method_6_code (4 : Nat) (Option.some (Jvm.ClassFile.FieldType.array (Jvm.ClassFile.FieldType.object "java/lang/Object")))) ∈ lw_all := lw_g (lw_at lw_m2 236 rfl) rfl
theorem q582 : (Jvm.Cond.methodLink "java/util/ArrayList" (73 : Nat) ({ cls := "jdk/internal/util/ArraysSupport", name := "newLength", desc := "(III)I" } : Jvm.MethodName)) ∈ lw_all := lw_g (lw_at lw_m2 237 rfl) rfl
theorem q592 : (Jvm.Cond.methodLink "java/util/ArrayList" (66 : Nat) ({ cls := "java/util/Arrays", name := "copyOf", desc := "([Ljava/lang/Object;I)[Ljava/lang/Object;" } : Jvm.MethodName)) ∈ lw_all := lw_g (lw_at lw_m3 7 rfl) rfl
theorem q616 : (Jvm.Cond.selects "java/util/ArrayList" ({ cls := "java/lang/Object", name := "getClass", desc := "()Ljava/lang/Class;" } : Jvm.MethodName) ({ cls := "java/lang/Object", name := "getClass", desc := "()Ljava/lang/Class;" } : Jvm.MethodName)) ∈ lw_all := lw_g (lw_at lw_m3 31 rfl) rfl
theorem q630 : (Jvm.Cond.methodLink "java/util/ArrayList" (79 : Nat) ({ cls := "java/lang/Math", name := "max", desc := "(II)I" } : Jvm.MethodName)) ∈ lw_all := lw_g (lw_at lw_m3 45 rfl) rfl
theorem q631 : (Jvm.Cond.classLink "java/util/ArrayList" (7 : Nat) "java/lang/Object") ∈ lw_all := lw_g (lw_at lw_m3 46 rfl) rfl
theorem q1509 : (Jvm.Cond.instanceMethod ({ cls := "java/util/ArrayList", name := "isEmpty", desc := "()Z" } : Jvm.MethodName)) ∈ lw_all := lw_g (lw_at lw_m6 204 rfl) rfl
theorem q1510 : (Jvm.Cond.selects "java/util/ArrayList" ({ cls := "java/util/ArrayList", name := "isEmpty", desc := "()Z" } : Jvm.MethodName) ({ cls := "java/util/ArrayList", name := "isEmpty", desc := "()Z" } : Jvm.MethodName)) ∈ lw_all := lw_g (lw_at lw_m6 205 rfl) rfl
theorem q1511 : (Jvm.Cond.code ({ cls := "java/util/ArrayList", name := "isEmpty", desc := "()Z" } : Jvm.MethodName) prog_41_method_9_code (1 : Nat) (Option.some Jvm.ClassFile.FieldType.boolean)) ∈ lw_all := lw_g (lw_at lw_m6 206 rfl) rfl
theorem q2163 : (Jvm.Cond.castable "java/util/ArrayList" "java/lang/Object") ∈ lw_tbl := lw_at lw_m9 138 rfl
theorem in_J9 : ∀ w ∈ wsJ90, w ∈ lw_all := lw_in wsJ90 [458, 454, 456] (by decide +kernel) (by decide +kernel)
/-! java/lang/AbstractStringBuilder -/
set_option maxRecDepth 100000
def RJ10 : String := "java/lang/AbstractStringBuilder"
abbrev cJ10_init : ByteArray := prog_13_method_2_code
def yJ10_init : MethodName := ⟨RJ10, "<init>", "(I)V"⟩
def dkwJ10_init_1 : List UInt8 := [167, 0, 16, 42, 27, 184, 0, 26, 181, 0, 15, 42, 4, 181, 0, 22, 177]
abbrev dktJ10_init_1 : List UInt8 := dkwJ10_init_1 ++ []
def dkwJ10_init_0 : List UInt8 := [42, 183, 0, 3, 178, 0, 18, 153, 0, 18, 42, 27, 188, 8, 181, 0, 15, 42, 3, 181, 0, 22]
abbrev dktJ10_init_0 : List UInt8 := dkwJ10_init_0 ++ dktJ10_init_1
theorem dksJ10_init_0 : cJ10_init.data.toList.drop 0 = dktJ10_init_0 := by decide +kernel
theorem dksJ10_init_1 : cJ10_init.data.toList.drop 22 = dktJ10_init_1 := dk_seg dksJ10_init_0 22 rfl rfl
theorem dJ10_init_0 : decode cJ10_init 0 = .ok (.aload_n 0, 1) := dk_42 (dk_at dksJ10_init_0 0 rfl rfl)
theorem dJ10_init_1 : decode cJ10_init 1 = .ok (.invokespecial 3, 3) := dk_183 0 3 (dk_at dksJ10_init_0 1 rfl rfl)
theorem dJ10_init_4 : decode cJ10_init 4 = .ok (.getstatic 18, 3) := dk_178 0 18 (dk_at dksJ10_init_0 4 rfl rfl)
theorem dJ10_init_7 : decode cJ10_init 7 = .ok (.ifCond .eq 18, 3) := dk_153 0 18 (dk_at dksJ10_init_0 7 rfl rfl)
theorem dJ10_init_10 : decode cJ10_init 10 = .ok (.aload_n 0, 1) := dk_42 (dk_at dksJ10_init_0 10 rfl rfl)
theorem dJ10_init_11 : decode cJ10_init 11 = .ok (.iload_n 1, 1) := dk_27 (dk_at dksJ10_init_0 11 rfl rfl)
theorem dJ10_init_12 : decode cJ10_init 12 = .ok (.newarray .byte, 2) := dk_188_8 (dk_at dksJ10_init_0 12 rfl rfl)
theorem dJ10_init_14 : decode cJ10_init 14 = .ok (.putfield 15, 3) := dk_181 0 15 (dk_at dksJ10_init_0 14 rfl rfl)
theorem dJ10_init_17 : decode cJ10_init 17 = .ok (.aload_n 0, 1) := dk_42 (dk_at dksJ10_init_0 17 rfl rfl)
theorem dJ10_init_18 : decode cJ10_init 18 = .ok (.iconst 0, 1) := dk_3 (dk_at dksJ10_init_0 18 rfl rfl)
theorem dJ10_init_19 : decode cJ10_init 19 = .ok (.putfield 22, 3) := dk_181 0 22 (dk_at dksJ10_init_0 19 rfl rfl)
theorem dJ10_init_22 : decode cJ10_init 22 = .ok (.goto 16, 3) := dk_167 0 16 (dk_at dksJ10_init_1 0 rfl rfl)
theorem dJ10_init_25 : decode cJ10_init 25 = .ok (.aload_n 0, 1) := dk_42 (dk_at dksJ10_init_1 3 rfl rfl)
theorem dJ10_init_26 : decode cJ10_init 26 = .ok (.iload_n 1, 1) := dk_27 (dk_at dksJ10_init_1 4 rfl rfl)
theorem dJ10_init_27 : decode cJ10_init 27 = .ok (.invokestatic 26, 3) := dk_184 0 26 (dk_at dksJ10_init_1 5 rfl rfl)
theorem dJ10_init_30 : decode cJ10_init 30 = .ok (.putfield 15, 3) := dk_181 0 15 (dk_at dksJ10_init_1 8 rfl rfl)
theorem dJ10_init_33 : decode cJ10_init 33 = .ok (.aload_n 0, 1) := dk_42 (dk_at dksJ10_init_1 11 rfl rfl)
theorem dJ10_init_34 : decode cJ10_init 34 = .ok (.iconst 1, 1) := dk_4 (dk_at dksJ10_init_1 12 rfl rfl)
theorem dJ10_init_35 : decode cJ10_init 35 = .ok (.putfield 22, 3) := dk_181 0 22 (dk_at dksJ10_init_1 13 rfl rfl)
theorem dJ10_init_38 : decode cJ10_init 38 = .ok (.return_, 1) := dk_177 (dk_at dksJ10_init_1 16 rfl rfl)
abbrev cJ10_length : ByteArray := prog_13_method_6_code
def yJ10_length : MethodName := ⟨RJ10, "length", "()I"⟩
theorem dJ10_length_0 : decode cJ10_length 0 = .ok (.aload_n 0, 1) := by decide +kernel
theorem dJ10_length_1 : decode cJ10_length 1 = .ok (.getfield 79, 3) := by decide +kernel
theorem dJ10_length_4 : decode cJ10_length 4 = .ok (.ireturn, 1) := by decide +kernel
abbrev cJ10_setLength : ByteArray := prog_13_method_13_code
def yJ10_setLength : MethodName := ⟨RJ10, "setLength", "(I)V"⟩
def dkwJ10_setLength_3 : List UInt8 := [164, 0, 8, 42, 4, 181, 0, 73, 42, 27, 181, 0, 79, 177]
abbrev dktJ10_setLength_3 : List UInt8 := dkwJ10_setLength_3 ++ []
def dkwJ10_setLength_2 : List UInt8 := [167, 0, 31, 42, 180, 0, 15, 42, 180, 0, 79, 27, 184, 0, 137, 167, 0, 16, 42, 180, 0, 79, 27]
abbrev dktJ10_setLength_2 : List UInt8 := dkwJ10_setLength_2 ++ dktJ10_setLength_3
def dkwJ10_setLength_1 : List UInt8 := [162, 0, 40, 42, 182, 0, 83, 153, 0, 18, 42, 180, 0, 15, 42, 180, 0, 79, 27, 184, 0, 133]
abbrev dktJ10_setLength_1 : List UInt8 := dkwJ10_setLength_1 ++ dktJ10_setLength_2
def dkwJ10_setLength_0 : List UInt8 := [27, 156, 0, 12, 187, 0, 129, 89, 27, 183, 0, 131, 191, 42, 27, 182, 0, 100, 42, 180, 0, 79, 27]
abbrev dktJ10_setLength_0 : List UInt8 := dkwJ10_setLength_0 ++ dktJ10_setLength_1
theorem dksJ10_setLength_0 : cJ10_setLength.data.toList.drop 0 = dktJ10_setLength_0 := by decide +kernel
theorem dksJ10_setLength_1 : cJ10_setLength.data.toList.drop 23 = dktJ10_setLength_1 := dk_seg dksJ10_setLength_0 23 rfl rfl
theorem dksJ10_setLength_2 : cJ10_setLength.data.toList.drop 45 = dktJ10_setLength_2 := dk_seg dksJ10_setLength_1 22 rfl rfl
theorem dksJ10_setLength_3 : cJ10_setLength.data.toList.drop 68 = dktJ10_setLength_3 := dk_seg dksJ10_setLength_2 23 rfl rfl
theorem dJ10_setLength_0 : decode cJ10_setLength 0 = .ok (.iload_n 1, 1) := dk_27 (dk_at dksJ10_setLength_0 0 rfl rfl)
theorem dJ10_setLength_1 : decode cJ10_setLength 1 = .ok (.ifCond .ge 12, 3) := dk_156 0 12 (dk_at dksJ10_setLength_0 1 rfl rfl)
theorem dJ10_setLength_4 : decode cJ10_setLength 4 = .ok (.new 129, 3) := dk_187 0 129 (dk_at dksJ10_setLength_0 4 rfl rfl)
theorem dJ10_setLength_7 : decode cJ10_setLength 7 = .ok (.dup, 1) := dk_89 (dk_at dksJ10_setLength_0 7 rfl rfl)
theorem dJ10_setLength_8 : decode cJ10_setLength 8 = .ok (.iload_n 1, 1) := dk_27 (dk_at dksJ10_setLength_0 8 rfl rfl)
theorem dJ10_setLength_9 : decode cJ10_setLength 9 = .ok (.invokespecial 131, 3) := dk_183 0 131 (dk_at dksJ10_setLength_0 9 rfl rfl)
theorem dJ10_setLength_12 : decode cJ10_setLength 12 = .ok (.athrow, 1) := dk_191 (dk_at dksJ10_setLength_0 12 rfl rfl)
theorem dJ10_setLength_13 : decode cJ10_setLength 13 = .ok (.aload_n 0, 1) := dk_42 (dk_at dksJ10_setLength_0 13 rfl rfl)
theorem dJ10_setLength_14 : decode cJ10_setLength 14 = .ok (.iload_n 1, 1) := dk_27 (dk_at dksJ10_setLength_0 14 rfl rfl)
theorem dJ10_setLength_15 : decode cJ10_setLength 15 = .ok (.invokevirtual 100, 3) := dk_182 0 100 (dk_at dksJ10_setLength_0 15 rfl rfl)
theorem dJ10_setLength_18 : decode cJ10_setLength 18 = .ok (.aload_n 0, 1) := dk_42 (dk_at dksJ10_setLength_0 18 rfl rfl)
theorem dJ10_setLength_19 : decode cJ10_setLength 19 = .ok (.getfield 79, 3) := dk_180 0 79 (dk_at dksJ10_setLength_0 19 rfl rfl)
theorem dJ10_setLength_22 : decode cJ10_setLength 22 = .ok (.iload_n 1, 1) := dk_27 (dk_at dksJ10_setLength_0 22 rfl rfl)
theorem dJ10_setLength_23 : decode cJ10_setLength 23 = .ok (.if_icmp .ge 40, 3) := dk_162 0 40 (dk_at dksJ10_setLength_1 0 rfl rfl)
theorem dJ10_setLength_26 : decode cJ10_setLength 26 = .ok (.aload_n 0, 1) := dk_42 (dk_at dksJ10_setLength_1 3 rfl rfl)
theorem dJ10_setLength_27 : decode cJ10_setLength 27 = .ok (.invokevirtual 83, 3) := dk_182 0 83 (dk_at dksJ10_setLength_1 4 rfl rfl)
theorem dJ10_setLength_30 : decode cJ10_setLength 30 = .ok (.ifCond .eq 18, 3) := dk_153 0 18 (dk_at dksJ10_setLength_1 7 rfl rfl)
theorem dJ10_setLength_33 : decode cJ10_setLength 33 = .ok (.aload_n 0, 1) := dk_42 (dk_at dksJ10_setLength_1 10 rfl rfl)
theorem dJ10_setLength_34 : decode cJ10_setLength 34 = .ok (.getfield 15, 3) := dk_180 0 15 (dk_at dksJ10_setLength_1 11 rfl rfl)
theorem dJ10_setLength_37 : decode cJ10_setLength 37 = .ok (.aload_n 0, 1) := dk_42 (dk_at dksJ10_setLength_1 14 rfl rfl)
theorem dJ10_setLength_38 : decode cJ10_setLength 38 = .ok (.getfield 79, 3) := dk_180 0 79 (dk_at dksJ10_setLength_1 15 rfl rfl)
theorem dJ10_setLength_41 : decode cJ10_setLength 41 = .ok (.iload_n 1, 1) := dk_27 (dk_at dksJ10_setLength_1 18 rfl rfl)
theorem dJ10_setLength_42 : decode cJ10_setLength 42 = .ok (.invokestatic 133, 3) := dk_184 0 133 (dk_at dksJ10_setLength_1 19 rfl rfl)
theorem dJ10_setLength_45 : decode cJ10_setLength 45 = .ok (.goto 31, 3) := dk_167 0 31 (dk_at dksJ10_setLength_2 0 rfl rfl)
theorem dJ10_setLength_48 : decode cJ10_setLength 48 = .ok (.aload_n 0, 1) := dk_42 (dk_at dksJ10_setLength_2 3 rfl rfl)
theorem dJ10_setLength_49 : decode cJ10_setLength 49 = .ok (.getfield 15, 3) := dk_180 0 15 (dk_at dksJ10_setLength_2 4 rfl rfl)
theorem dJ10_setLength_52 : decode cJ10_setLength 52 = .ok (.aload_n 0, 1) := dk_42 (dk_at dksJ10_setLength_2 7 rfl rfl)
theorem dJ10_setLength_53 : decode cJ10_setLength 53 = .ok (.getfield 79, 3) := dk_180 0 79 (dk_at dksJ10_setLength_2 8 rfl rfl)
theorem dJ10_setLength_56 : decode cJ10_setLength 56 = .ok (.iload_n 1, 1) := dk_27 (dk_at dksJ10_setLength_2 11 rfl rfl)
theorem dJ10_setLength_57 : decode cJ10_setLength 57 = .ok (.invokestatic 137, 3) := dk_184 0 137 (dk_at dksJ10_setLength_2 12 rfl rfl)
theorem dJ10_setLength_60 : decode cJ10_setLength 60 = .ok (.goto 16, 3) := dk_167 0 16 (dk_at dksJ10_setLength_2 15 rfl rfl)
theorem dJ10_setLength_63 : decode cJ10_setLength 63 = .ok (.aload_n 0, 1) := dk_42 (dk_at dksJ10_setLength_2 18 rfl rfl)
theorem dJ10_setLength_64 : decode cJ10_setLength 64 = .ok (.getfield 79, 3) := dk_180 0 79 (dk_at dksJ10_setLength_2 19 rfl rfl)
theorem dJ10_setLength_67 : decode cJ10_setLength 67 = .ok (.iload_n 1, 1) := dk_27 (dk_at dksJ10_setLength_2 22 rfl rfl)
theorem dJ10_setLength_68 : decode cJ10_setLength 68 = .ok (.if_icmp .le 8, 3) := dk_164 0 8 (dk_at dksJ10_setLength_3 0 rfl rfl)
theorem dJ10_setLength_71 : decode cJ10_setLength 71 = .ok (.aload_n 0, 1) := dk_42 (dk_at dksJ10_setLength_3 3 rfl rfl)
theorem dJ10_setLength_72 : decode cJ10_setLength 72 = .ok (.iconst 1, 1) := dk_4 (dk_at dksJ10_setLength_3 4 rfl rfl)
theorem dJ10_setLength_73 : decode cJ10_setLength 73 = .ok (.putfield 73, 3) := dk_181 0 73 (dk_at dksJ10_setLength_3 5 rfl rfl)
theorem dJ10_setLength_76 : decode cJ10_setLength 76 = .ok (.aload_n 0, 1) := dk_42 (dk_at dksJ10_setLength_3 8 rfl rfl)
theorem dJ10_setLength_77 : decode cJ10_setLength 77 = .ok (.iload_n 1, 1) := dk_27 (dk_at dksJ10_setLength_3 9 rfl rfl)
theorem dJ10_setLength_78 : decode cJ10_setLength 78 = .ok (.putfield 79, 3) := dk_181 0 79 (dk_at dksJ10_setLength_3 10 rfl rfl)
theorem dJ10_setLength_81 : decode cJ10_setLength 81 = .ok (.return_, 1) := dk_177 (dk_at dksJ10_setLength_3 13 rfl rfl)
abbrev cJ10_append : ByteArray := prog_13_method_22_code
def yJ10_append : MethodName := ⟨RJ10, "append", "(Ljava/lang/String;)Ljava/lang/AbstractStringBuilder;"⟩
def dkwJ10_append_1 : List UInt8 := [42, 42, 180, 0, 79, 43, 182, 0, 208, 42, 89, 180, 0, 79, 28, 96, 181, 0, 79, 42, 176]
abbrev dktJ10_append_1 : List UInt8 := dkwJ10_append_1 ++ []
def dkwJ10_append_0 : List UInt8 := [43, 199, 0, 8, 42, 182, 0, 204, 176, 43, 182, 0, 32, 61, 42, 42, 180, 0, 79, 28, 96, 182, 0, 100]
abbrev dktJ10_append_0 : List UInt8 := dkwJ10_append_0 ++ dktJ10_append_1
theorem dksJ10_append_0 : cJ10_append.data.toList.drop 0 = dktJ10_append_0 := by decide +kernel
theorem dksJ10_append_1 : cJ10_append.data.toList.drop 24 = dktJ10_append_1 := dk_seg dksJ10_append_0 24 rfl rfl
theorem dJ10_append_0 : decode cJ10_append 0 = .ok (.aload_n 1, 1) := dk_43 (dk_at dksJ10_append_0 0 rfl rfl)
theorem dJ10_append_1 : decode cJ10_append 1 = .ok (.ifnonnull 8, 3) := dk_199 0 8 (dk_at dksJ10_append_0 1 rfl rfl)
theorem dJ10_append_4 : decode cJ10_append 4 = .ok (.aload_n 0, 1) := dk_42 (dk_at dksJ10_append_0 4 rfl rfl)
theorem dJ10_append_5 : decode cJ10_append 5 = .ok (.invokevirtual 204, 3) := dk_182 0 204 (dk_at dksJ10_append_0 5 rfl rfl)
theorem dJ10_append_8 : decode cJ10_append 8 = .ok (.areturn, 1) := dk_176 (dk_at dksJ10_append_0 8 rfl rfl)
theorem dJ10_append_9 : decode cJ10_append 9 = .ok (.aload_n 1, 1) := dk_43 (dk_at dksJ10_append_0 9 rfl rfl)
theorem dJ10_append_10 : decode cJ10_append 10 = .ok (.invokevirtual 32, 3) := dk_182 0 32 (dk_at dksJ10_append_0 10 rfl rfl)
theorem dJ10_append_13 : decode cJ10_append 13 = .ok (.istore_n 2, 1) := dk_61 (dk_at dksJ10_append_0 13 rfl rfl)
theorem dJ10_append_14 : decode cJ10_append 14 = .ok (.aload_n 0, 1) := dk_42 (dk_at dksJ10_append_0 14 rfl rfl)
theorem dJ10_append_15 : decode cJ10_append 15 = .ok (.aload_n 0, 1) := dk_42 (dk_at dksJ10_append_0 15 rfl rfl)
theorem dJ10_append_16 : decode cJ10_append 16 = .ok (.getfield 79, 3) := dk_180 0 79 (dk_at dksJ10_append_0 16 rfl rfl)
theorem dJ10_append_19 : decode cJ10_append 19 = .ok (.iload_n 2, 1) := dk_28 (dk_at dksJ10_append_0 19 rfl rfl)
theorem dJ10_append_20 : decode cJ10_append 20 = .ok (.iadd, 1) := dk_96 (dk_at dksJ10_append_0 20 rfl rfl)
theorem dJ10_append_21 : decode cJ10_append 21 = .ok (.invokevirtual 100, 3) := dk_182 0 100 (dk_at dksJ10_append_0 21 rfl rfl)
theorem dJ10_append_24 : decode cJ10_append 24 = .ok (.aload_n 0, 1) := dk_42 (dk_at dksJ10_append_1 0 rfl rfl)
theorem dJ10_append_25 : decode cJ10_append 25 = .ok (.aload_n 0, 1) := dk_42 (dk_at dksJ10_append_1 1 rfl rfl)
theorem dJ10_append_26 : decode cJ10_append 26 = .ok (.getfield 79, 3) := dk_180 0 79 (dk_at dksJ10_append_1 2 rfl rfl)
theorem dJ10_append_29 : decode cJ10_append 29 = .ok (.aload_n 1, 1) := dk_43 (dk_at dksJ10_append_1 5 rfl rfl)
theorem dJ10_append_30 : decode cJ10_append 30 = .ok (.invokevirtual 208, 3) := dk_182 0 208 (dk_at dksJ10_append_1 6 rfl rfl)
theorem dJ10_append_33 : decode cJ10_append 33 = .ok (.aload_n 0, 1) := dk_42 (dk_at dksJ10_append_1 9 rfl rfl)
theorem dJ10_append_34 : decode cJ10_append 34 = .ok (.dup, 1) := dk_89 (dk_at dksJ10_append_1 10 rfl rfl)
theorem dJ10_append_35 : decode cJ10_append 35 = .ok (.getfield 79, 3) := dk_180 0 79 (dk_at dksJ10_append_1 11 rfl rfl)
theorem dJ10_append_38 : decode cJ10_append 38 = .ok (.iload_n 2, 1) := dk_28 (dk_at dksJ10_append_1 14 rfl rfl)
theorem dJ10_append_39 : decode cJ10_append 39 = .ok (.iadd, 1) := dk_96 (dk_at dksJ10_append_1 15 rfl rfl)
theorem dJ10_append_40 : decode cJ10_append 40 = .ok (.putfield 79, 3) := dk_181 0 79 (dk_at dksJ10_append_1 16 rfl rfl)
theorem dJ10_append_43 : decode cJ10_append 43 = .ok (.aload_n 0, 1) := dk_42 (dk_at dksJ10_append_1 19 rfl rfl)
theorem dJ10_append_44 : decode cJ10_append 44 = .ok (.areturn, 1) := dk_176 (dk_at dksJ10_append_1 20 rfl rfl)
abbrev cJ10_appendNull : ByteArray := prog_13_method_26_code
def yJ10_appendNull : MethodName := ⟨RJ10, "appendNull", "()Ljava/lang/AbstractStringBuilder;"⟩
def dkwJ10_appendNull_3 : List UInt8 := [184, 0, 226, 60, 42, 27, 181, 0, 79, 42, 176]
abbrev dktJ10_appendNull_3 : List UInt8 := dkwJ10_appendNull_3 ++ []
def dkwJ10_appendNull_2 : List UInt8 := [16, 108, 84, 44, 27, 132, 1, 1, 16, 108, 84, 167, 0, 17, 44, 27, 16, 110, 16, 117, 16, 108, 16, 108]
abbrev dktJ10_appendNull_2 : List UInt8 := dkwJ10_appendNull_2 ++ dktJ10_appendNull_3
def dkwJ10_appendNull_1 : List UInt8 := [153, 0, 38, 44, 27, 132, 1, 1, 16, 110, 84, 44, 27, 132, 1, 1, 16, 117, 84, 44, 27, 132, 1, 1]
abbrev dktJ10_appendNull_1 : List UInt8 := dkwJ10_appendNull_1 ++ dktJ10_appendNull_2
def dkwJ10_appendNull_0 : List UInt8 := [42, 42, 180, 0, 79, 7, 96, 182, 0, 100, 42, 180, 0, 79, 60, 42, 180, 0, 15, 77, 42, 182, 0, 83]
abbrev dktJ10_appendNull_0 : List UInt8 := dkwJ10_appendNull_0 ++ dktJ10_appendNull_1
theorem dksJ10_appendNull_0 : cJ10_appendNull.data.toList.drop 0 = dktJ10_appendNull_0 := by decide +kernel
theorem dksJ10_appendNull_1 : cJ10_appendNull.data.toList.drop 24 = dktJ10_appendNull_1 := dk_seg dksJ10_appendNull_0 24 rfl rfl
theorem dksJ10_appendNull_2 : cJ10_appendNull.data.toList.drop 48 = dktJ10_appendNull_2 := dk_seg dksJ10_appendNull_1 24 rfl rfl
theorem dksJ10_appendNull_3 : cJ10_appendNull.data.toList.drop 72 = dktJ10_appendNull_3 := dk_seg dksJ10_appendNull_2 24 rfl rfl
theorem dJ10_appendNull_0 : decode cJ10_appendNull 0 = .ok (.aload_n 0, 1) := dk_42 (dk_at dksJ10_appendNull_0 0 rfl rfl)
theorem dJ10_appendNull_1 : decode cJ10_appendNull 1 = .ok (.aload_n 0, 1) := dk_42 (dk_at dksJ10_appendNull_0 1 rfl rfl)
theorem dJ10_appendNull_2 : decode cJ10_appendNull 2 = .ok (.getfield 79, 3) := dk_180 0 79 (dk_at dksJ10_appendNull_0 2 rfl rfl)
theorem dJ10_appendNull_5 : decode cJ10_appendNull 5 = .ok (.iconst 4, 1) := dk_7 (dk_at dksJ10_appendNull_0 5 rfl rfl)
theorem dJ10_appendNull_6 : decode cJ10_appendNull 6 = .ok (.iadd, 1) := dk_96 (dk_at dksJ10_appendNull_0 6 rfl rfl)
theorem dJ10_appendNull_7 : decode cJ10_appendNull 7 = .ok (.invokevirtual 100, 3) := dk_182 0 100 (dk_at dksJ10_appendNull_0 7 rfl rfl)
theorem dJ10_appendNull_10 : decode cJ10_appendNull 10 = .ok (.aload_n 0, 1) := dk_42 (dk_at dksJ10_appendNull_0 10 rfl rfl)
theorem dJ10_appendNull_11 : decode cJ10_appendNull 11 = .ok (.getfield 79, 3) := dk_180 0 79 (dk_at dksJ10_appendNull_0 11 rfl rfl)
theorem dJ10_appendNull_14 : decode cJ10_appendNull 14 = .ok (.istore_n 1, 1) := dk_60 (dk_at dksJ10_appendNull_0 14 rfl rfl)
theorem dJ10_appendNull_15 : decode cJ10_appendNull 15 = .ok (.aload_n 0, 1) := dk_42 (dk_at dksJ10_appendNull_0 15 rfl rfl)
theorem dJ10_appendNull_16 : decode cJ10_appendNull 16 = .ok (.getfield 15, 3) := dk_180 0 15 (dk_at dksJ10_appendNull_0 16 rfl rfl)
theorem dJ10_appendNull_19 : decode cJ10_appendNull 19 = .ok (.astore_n 2, 1) := dk_77 (dk_at dksJ10_appendNull_0 19 rfl rfl)
theorem dJ10_appendNull_20 : decode cJ10_appendNull 20 = .ok (.aload_n 0, 1) := dk_42 (dk_at dksJ10_appendNull_0 20 rfl rfl)
theorem dJ10_appendNull_21 : decode cJ10_appendNull 21 = .ok (.invokevirtual 83, 3) := dk_182 0 83 (dk_at dksJ10_appendNull_0 21 rfl rfl)
theorem dJ10_appendNull_24 : decode cJ10_appendNull 24 = .ok (.ifCond .eq 38, 3) := dk_153 0 38 (dk_at dksJ10_appendNull_1 0 rfl rfl)
theorem dJ10_appendNull_27 : decode cJ10_appendNull 27 = .ok (.aload_n 2, 1) := dk_44 (dk_at dksJ10_appendNull_1 3 rfl rfl)
theorem dJ10_appendNull_28 : decode cJ10_appendNull 28 = .ok (.iload_n 1, 1) := dk_27 (dk_at dksJ10_appendNull_1 4 rfl rfl)
theorem dJ10_appendNull_29 : decode cJ10_appendNull 29 = .ok (.iinc 1 1, 3) := dk_132 1 1 (dk_at dksJ10_appendNull_1 5 rfl rfl)
theorem dJ10_appendNull_32 : decode cJ10_appendNull 32 = .ok (.bipush 110, 2) := dk_16 110 (dk_at dksJ10_appendNull_1 8 rfl rfl)
theorem dJ10_appendNull_34 : decode cJ10_appendNull 34 = .ok (.bastore, 1) := dk_84 (dk_at dksJ10_appendNull_1 10 rfl rfl)
theorem dJ10_appendNull_35 : decode cJ10_appendNull 35 = .ok (.aload_n 2, 1) := dk_44 (dk_at dksJ10_appendNull_1 11 rfl rfl)
theorem dJ10_appendNull_36 : decode cJ10_appendNull 36 = .ok (.iload_n 1, 1) := dk_27 (dk_at dksJ10_appendNull_1 12 rfl rfl)
theorem dJ10_appendNull_37 : decode cJ10_appendNull 37 = .ok (.iinc 1 1, 3) := dk_132 1 1 (dk_at dksJ10_appendNull_1 13 rfl rfl)
theorem dJ10_appendNull_40 : decode cJ10_appendNull 40 = .ok (.bipush 117, 2) := dk_16 117 (dk_at dksJ10_appendNull_1 16 rfl rfl)
theorem dJ10_appendNull_42 : decode cJ10_appendNull 42 = .ok (.bastore, 1) := dk_84 (dk_at dksJ10_appendNull_1 18 rfl rfl)
theorem dJ10_appendNull_43 : decode cJ10_appendNull 43 = .ok (.aload_n 2, 1) := dk_44 (dk_at dksJ10_appendNull_1 19 rfl rfl)
theorem dJ10_appendNull_44 : decode cJ10_appendNull 44 = .ok (.iload_n 1, 1) := dk_27 (dk_at dksJ10_appendNull_1 20 rfl rfl)
theorem dJ10_appendNull_45 : decode cJ10_appendNull 45 = .ok (.iinc 1 1, 3) := dk_132 1 1 (dk_at dksJ10_appendNull_1 21 rfl rfl)
theorem dJ10_appendNull_48 : decode cJ10_appendNull 48 = .ok (.bipush 108, 2) := dk_16 108 (dk_at dksJ10_appendNull_2 0 rfl rfl)
theorem dJ10_appendNull_50 : decode cJ10_appendNull 50 = .ok (.bastore, 1) := dk_84 (dk_at dksJ10_appendNull_2 2 rfl rfl)
theorem dJ10_appendNull_51 : decode cJ10_appendNull 51 = .ok (.aload_n 2, 1) := dk_44 (dk_at dksJ10_appendNull_2 3 rfl rfl)
theorem dJ10_appendNull_52 : decode cJ10_appendNull 52 = .ok (.iload_n 1, 1) := dk_27 (dk_at dksJ10_appendNull_2 4 rfl rfl)
theorem dJ10_appendNull_53 : decode cJ10_appendNull 53 = .ok (.iinc 1 1, 3) := dk_132 1 1 (dk_at dksJ10_appendNull_2 5 rfl rfl)
theorem dJ10_appendNull_56 : decode cJ10_appendNull 56 = .ok (.bipush 108, 2) := dk_16 108 (dk_at dksJ10_appendNull_2 8 rfl rfl)
theorem dJ10_appendNull_58 : decode cJ10_appendNull 58 = .ok (.bastore, 1) := dk_84 (dk_at dksJ10_appendNull_2 10 rfl rfl)
theorem dJ10_appendNull_59 : decode cJ10_appendNull 59 = .ok (.goto 17, 3) := dk_167 0 17 (dk_at dksJ10_appendNull_2 11 rfl rfl)
theorem dJ10_appendNull_62 : decode cJ10_appendNull 62 = .ok (.aload_n 2, 1) := dk_44 (dk_at dksJ10_appendNull_2 14 rfl rfl)
theorem dJ10_appendNull_63 : decode cJ10_appendNull 63 = .ok (.iload_n 1, 1) := dk_27 (dk_at dksJ10_appendNull_2 15 rfl rfl)
theorem dJ10_appendNull_64 : decode cJ10_appendNull 64 = .ok (.bipush 110, 2) := dk_16 110 (dk_at dksJ10_appendNull_2 16 rfl rfl)
theorem dJ10_appendNull_66 : decode cJ10_appendNull 66 = .ok (.bipush 117, 2) := dk_16 117 (dk_at dksJ10_appendNull_2 18 rfl rfl)
theorem dJ10_appendNull_68 : decode cJ10_appendNull 68 = .ok (.bipush 108, 2) := dk_16 108 (dk_at dksJ10_appendNull_2 20 rfl rfl)
theorem dJ10_appendNull_70 : decode cJ10_appendNull 70 = .ok (.bipush 108, 2) := dk_16 108 (dk_at dksJ10_appendNull_2 22 rfl rfl)
theorem dJ10_appendNull_72 : decode cJ10_appendNull 72 = .ok (.invokestatic 226, 3) := dk_184 0 226 (dk_at dksJ10_appendNull_3 0 rfl rfl)
theorem dJ10_appendNull_75 : decode cJ10_appendNull 75 = .ok (.istore_n 1, 1) := dk_60 (dk_at dksJ10_appendNull_3 3 rfl rfl)
theorem dJ10_appendNull_76 : decode cJ10_appendNull 76 = .ok (.aload_n 0, 1) := dk_42 (dk_at dksJ10_appendNull_3 4 rfl rfl)
theorem dJ10_appendNull_77 : decode cJ10_appendNull 77 = .ok (.iload_n 1, 1) := dk_27 (dk_at dksJ10_appendNull_3 5 rfl rfl)
theorem dJ10_appendNull_78 : decode cJ10_appendNull 78 = .ok (.putfield 79, 3) := dk_181 0 79 (dk_at dksJ10_appendNull_3 6 rfl rfl)
theorem dJ10_appendNull_81 : decode cJ10_appendNull 81 = .ok (.aload_n 0, 1) := dk_42 (dk_at dksJ10_appendNull_3 9 rfl rfl)
theorem dJ10_appendNull_82 : decode cJ10_appendNull 82 = .ok (.areturn, 1) := dk_176 (dk_at dksJ10_appendNull_3 10 rfl rfl)
abbrev cJ10_ensureCapacityInternal : ByteArray := prog_13_method_9_code
def yJ10_ensureCapacityInternal : MethodName := ⟨RJ10, "ensureCapacityInternal", "(I)V"⟩
def dkwJ10_ensureCapacityInternal_1 : List UInt8 := [182, 0, 104, 42, 180, 0, 22, 120, 184, 0, 108, 181, 0, 15, 177]
abbrev dktJ10_ensureCapacityInternal_1 : List UInt8 := dkwJ10_ensureCapacityInternal_1 ++ []
def dkwJ10_ensureCapacityInternal_0 : List UInt8 := [42, 180, 0, 15, 190, 42, 180, 0, 22, 122, 61, 27, 28, 100, 158, 0, 24, 42, 42, 180, 0, 15, 42, 27]
abbrev dktJ10_ensureCapacityInternal_0 : List UInt8 := dkwJ10_ensureCapacityInternal_0 ++ dktJ10_ensureCapacityInternal_1
theorem dksJ10_ensureCapacityInternal_0 : cJ10_ensureCapacityInternal.data.toList.drop 0 = dktJ10_ensureCapacityInternal_0 := by decide +kernel
theorem dksJ10_ensureCapacityInternal_1 : cJ10_ensureCapacityInternal.data.toList.drop 24 = dktJ10_ensureCapacityInternal_1 := dk_seg dksJ10_ensureCapacityInternal_0 24 rfl rfl
theorem dJ10_ensureCapacityInternal_0 : decode cJ10_ensureCapacityInternal 0 = .ok (.aload_n 0, 1) := dk_42 (dk_at dksJ10_ensureCapacityInternal_0 0 rfl rfl)
theorem dJ10_ensureCapacityInternal_1 : decode cJ10_ensureCapacityInternal 1 = .ok (.getfield 15, 3) := dk_180 0 15 (dk_at dksJ10_ensureCapacityInternal_0 1 rfl rfl)
theorem dJ10_ensureCapacityInternal_4 : decode cJ10_ensureCapacityInternal 4 = .ok (.arraylength, 1) := dk_190 (dk_at dksJ10_ensureCapacityInternal_0 4 rfl rfl)
theorem dJ10_ensureCapacityInternal_5 : decode cJ10_ensureCapacityInternal 5 = .ok (.aload_n 0, 1) := dk_42 (dk_at dksJ10_ensureCapacityInternal_0 5 rfl rfl)
theorem dJ10_ensureCapacityInternal_6 : decode cJ10_ensureCapacityInternal 6 = .ok (.getfield 22, 3) := dk_180 0 22 (dk_at dksJ10_ensureCapacityInternal_0 6 rfl rfl)
theorem dJ10_ensureCapacityInternal_9 : decode cJ10_ensureCapacityInternal 9 = .ok (.ishr, 1) := dk_122 (dk_at dksJ10_ensureCapacityInternal_0 9 rfl rfl)
theorem dJ10_ensureCapacityInternal_10 : decode cJ10_ensureCapacityInternal 10 = .ok (.istore_n 2, 1) := dk_61 (dk_at dksJ10_ensureCapacityInternal_0 10 rfl rfl)
theorem dJ10_ensureCapacityInternal_11 : decode cJ10_ensureCapacityInternal 11 = .ok (.iload_n 1, 1) := dk_27 (dk_at dksJ10_ensureCapacityInternal_0 11 rfl rfl)
theorem dJ10_ensureCapacityInternal_12 : decode cJ10_ensureCapacityInternal 12 = .ok (.iload_n 2, 1) := dk_28 (dk_at dksJ10_ensureCapacityInternal_0 12 rfl rfl)
theorem dJ10_ensureCapacityInternal_13 : decode cJ10_ensureCapacityInternal 13 = .ok (.isub, 1) := dk_100 (dk_at dksJ10_ensureCapacityInternal_0 13 rfl rfl)
theorem dJ10_ensureCapacityInternal_14 : decode cJ10_ensureCapacityInternal 14 = .ok (.ifCond .le 24, 3) := dk_158 0 24 (dk_at dksJ10_ensureCapacityInternal_0 14 rfl rfl)
theorem dJ10_ensureCapacityInternal_17 : decode cJ10_ensureCapacityInternal 17 = .ok (.aload_n 0, 1) := dk_42 (dk_at dksJ10_ensureCapacityInternal_0 17 rfl rfl)
theorem dJ10_ensureCapacityInternal_18 : decode cJ10_ensureCapacityInternal 18 = .ok (.aload_n 0, 1) := dk_42 (dk_at dksJ10_ensureCapacityInternal_0 18 rfl rfl)
theorem dJ10_ensureCapacityInternal_19 : decode cJ10_ensureCapacityInternal 19 = .ok (.getfield 15, 3) := dk_180 0 15 (dk_at dksJ10_ensureCapacityInternal_0 19 rfl rfl)
theorem dJ10_ensureCapacityInternal_22 : decode cJ10_ensureCapacityInternal 22 = .ok (.aload_n 0, 1) := dk_42 (dk_at dksJ10_ensureCapacityInternal_0 22 rfl rfl)
theorem dJ10_ensureCapacityInternal_23 : decode cJ10_ensureCapacityInternal 23 = .ok (.iload_n 1, 1) := dk_27 (dk_at dksJ10_ensureCapacityInternal_0 23 rfl rfl)
theorem dJ10_ensureCapacityInternal_24 : decode cJ10_ensureCapacityInternal 24 = .ok (.invokevirtual 104, 3) := dk_182 0 104 (dk_at dksJ10_ensureCapacityInternal_1 0 rfl rfl)
theorem dJ10_ensureCapacityInternal_27 : decode cJ10_ensureCapacityInternal 27 = .ok (.aload_n 0, 1) := dk_42 (dk_at dksJ10_ensureCapacityInternal_1 3 rfl rfl)
theorem dJ10_ensureCapacityInternal_28 : decode cJ10_ensureCapacityInternal 28 = .ok (.getfield 22, 3) := dk_180 0 22 (dk_at dksJ10_ensureCapacityInternal_1 4 rfl rfl)
theorem dJ10_ensureCapacityInternal_31 : decode cJ10_ensureCapacityInternal 31 = .ok (.ishl, 1) := dk_120 (dk_at dksJ10_ensureCapacityInternal_1 7 rfl rfl)
theorem dJ10_ensureCapacityInternal_32 : decode cJ10_ensureCapacityInternal 32 = .ok (.invokestatic 108, 3) := dk_184 0 108 (dk_at dksJ10_ensureCapacityInternal_1 8 rfl rfl)
theorem dJ10_ensureCapacityInternal_35 : decode cJ10_ensureCapacityInternal 35 = .ok (.putfield 15, 3) := dk_181 0 15 (dk_at dksJ10_ensureCapacityInternal_1 11 rfl rfl)
theorem dJ10_ensureCapacityInternal_38 : decode cJ10_ensureCapacityInternal 38 = .ok (.return_, 1) := dk_177 (dk_at dksJ10_ensureCapacityInternal_1 14 rfl rfl)
abbrev cJ10_newCapacity : ByteArray := prog_13_method_10_code
def yJ10_newCapacity : MethodName := ⟨RJ10, "newCapacity", "(I)I"⟩
def dkwJ10_newCapacity_2 : List UInt8 := [183, 0, 124, 191, 21, 5, 42, 180, 0, 22, 122, 172]
abbrev dktJ10_newCapacity_2 : List UInt8 := dkwJ10_newCapacity_2 ++ []
def dkwJ10_newCapacity_1 : List UInt8 := [180, 0, 22, 120, 96, 184, 0, 114, 54, 5, 21, 5, 18, 39, 160, 0, 13, 187, 0, 120, 89, 18, 122]
abbrev dktJ10_newCapacity_1 : List UInt8 := dkwJ10_newCapacity_1 ++ dktJ10_newCapacity_2
def dkwJ10_newCapacity_0 : List UInt8 := [42, 180, 0, 15, 190, 61, 27, 42, 180, 0, 22, 120, 62, 29, 28, 100, 54, 4, 28, 21, 4, 28, 5, 42]
abbrev dktJ10_newCapacity_0 : List UInt8 := dkwJ10_newCapacity_0 ++ dktJ10_newCapacity_1
theorem dksJ10_newCapacity_0 : cJ10_newCapacity.data.toList.drop 0 = dktJ10_newCapacity_0 := by decide +kernel
theorem dksJ10_newCapacity_1 : cJ10_newCapacity.data.toList.drop 24 = dktJ10_newCapacity_1 := dk_seg dksJ10_newCapacity_0 24 rfl rfl
theorem dksJ10_newCapacity_2 : cJ10_newCapacity.data.toList.drop 47 = dktJ10_newCapacity_2 := dk_seg dksJ10_newCapacity_1 23 rfl rfl
theorem dJ10_newCapacity_0 : decode cJ10_newCapacity 0 = .ok (.aload_n 0, 1) := dk_42 (dk_at dksJ10_newCapacity_0 0 rfl rfl)
theorem dJ10_newCapacity_1 : decode cJ10_newCapacity 1 = .ok (.getfield 15, 3) := dk_180 0 15 (dk_at dksJ10_newCapacity_0 1 rfl rfl)
theorem dJ10_newCapacity_4 : decode cJ10_newCapacity 4 = .ok (.arraylength, 1) := dk_190 (dk_at dksJ10_newCapacity_0 4 rfl rfl)
theorem dJ10_newCapacity_5 : decode cJ10_newCapacity 5 = .ok (.istore_n 2, 1) := dk_61 (dk_at dksJ10_newCapacity_0 5 rfl rfl)
theorem dJ10_newCapacity_6 : decode cJ10_newCapacity 6 = .ok (.iload_n 1, 1) := dk_27 (dk_at dksJ10_newCapacity_0 6 rfl rfl)
theorem dJ10_newCapacity_7 : decode cJ10_newCapacity 7 = .ok (.aload_n 0, 1) := dk_42 (dk_at dksJ10_newCapacity_0 7 rfl rfl)
theorem dJ10_newCapacity_8 : decode cJ10_newCapacity 8 = .ok (.getfield 22, 3) := dk_180 0 22 (dk_at dksJ10_newCapacity_0 8 rfl rfl)
theorem dJ10_newCapacity_11 : decode cJ10_newCapacity 11 = .ok (.ishl, 1) := dk_120 (dk_at dksJ10_newCapacity_0 11 rfl rfl)
theorem dJ10_newCapacity_12 : decode cJ10_newCapacity 12 = .ok (.istore_n 3, 1) := dk_62 (dk_at dksJ10_newCapacity_0 12 rfl rfl)
theorem dJ10_newCapacity_13 : decode cJ10_newCapacity 13 = .ok (.iload_n 3, 1) := dk_29 (dk_at dksJ10_newCapacity_0 13 rfl rfl)
theorem dJ10_newCapacity_14 : decode cJ10_newCapacity 14 = .ok (.iload_n 2, 1) := dk_28 (dk_at dksJ10_newCapacity_0 14 rfl rfl)
theorem dJ10_newCapacity_15 : decode cJ10_newCapacity 15 = .ok (.isub, 1) := dk_100 (dk_at dksJ10_newCapacity_0 15 rfl rfl)
theorem dJ10_newCapacity_16 : decode cJ10_newCapacity 16 = .ok (.istore 4, 2) := dk_54 4 (dk_at dksJ10_newCapacity_0 16 rfl rfl)
theorem dJ10_newCapacity_18 : decode cJ10_newCapacity 18 = .ok (.iload_n 2, 1) := dk_28 (dk_at dksJ10_newCapacity_0 18 rfl rfl)
theorem dJ10_newCapacity_19 : decode cJ10_newCapacity 19 = .ok (.iload 4, 2) := dk_21 4 (dk_at dksJ10_newCapacity_0 19 rfl rfl)
theorem dJ10_newCapacity_21 : decode cJ10_newCapacity 21 = .ok (.iload_n 2, 1) := dk_28 (dk_at dksJ10_newCapacity_0 21 rfl rfl)
theorem dJ10_newCapacity_22 : decode cJ10_newCapacity 22 = .ok (.iconst 2, 1) := dk_5 (dk_at dksJ10_newCapacity_0 22 rfl rfl)
theorem dJ10_newCapacity_23 : decode cJ10_newCapacity 23 = .ok (.aload_n 0, 1) := dk_42 (dk_at dksJ10_newCapacity_0 23 rfl rfl)
theorem dJ10_newCapacity_24 : decode cJ10_newCapacity 24 = .ok (.getfield 22, 3) := dk_180 0 22 (dk_at dksJ10_newCapacity_1 0 rfl rfl)
theorem dJ10_newCapacity_27 : decode cJ10_newCapacity 27 = .ok (.ishl, 1) := dk_120 (dk_at dksJ10_newCapacity_1 3 rfl rfl)
theorem dJ10_newCapacity_28 : decode cJ10_newCapacity 28 = .ok (.iadd, 1) := dk_96 (dk_at dksJ10_newCapacity_1 4 rfl rfl)
theorem dJ10_newCapacity_29 : decode cJ10_newCapacity 29 = .ok (.invokestatic 114, 3) := dk_184 0 114 (dk_at dksJ10_newCapacity_1 5 rfl rfl)
theorem dJ10_newCapacity_32 : decode cJ10_newCapacity 32 = .ok (.istore 5, 2) := dk_54 5 (dk_at dksJ10_newCapacity_1 8 rfl rfl)
theorem dJ10_newCapacity_34 : decode cJ10_newCapacity 34 = .ok (.iload 5, 2) := dk_21 5 (dk_at dksJ10_newCapacity_1 10 rfl rfl)
theorem dJ10_newCapacity_36 : decode cJ10_newCapacity 36 = .ok (.ldc 39, 2) := dk_18 39 (dk_at dksJ10_newCapacity_1 12 rfl rfl)
theorem dJ10_newCapacity_38 : decode cJ10_newCapacity 38 = .ok (.if_icmp .ne 13, 3) := dk_160 0 13 (dk_at dksJ10_newCapacity_1 14 rfl rfl)
theorem dJ10_newCapacity_41 : decode cJ10_newCapacity 41 = .ok (.new 120, 3) := dk_187 0 120 (dk_at dksJ10_newCapacity_1 17 rfl rfl)
theorem dJ10_newCapacity_44 : decode cJ10_newCapacity 44 = .ok (.dup, 1) := dk_89 (dk_at dksJ10_newCapacity_1 20 rfl rfl)
theorem dJ10_newCapacity_45 : decode cJ10_newCapacity 45 = .ok (.ldc 122, 2) := dk_18 122 (dk_at dksJ10_newCapacity_1 21 rfl rfl)
theorem dJ10_newCapacity_47 : decode cJ10_newCapacity 47 = .ok (.invokespecial 124, 3) := dk_183 0 124 (dk_at dksJ10_newCapacity_2 0 rfl rfl)
theorem dJ10_newCapacity_50 : decode cJ10_newCapacity 50 = .ok (.athrow, 1) := dk_191 (dk_at dksJ10_newCapacity_2 3 rfl rfl)
theorem dJ10_newCapacity_51 : decode cJ10_newCapacity 51 = .ok (.iload 5, 2) := dk_21 5 (dk_at dksJ10_newCapacity_2 4 rfl rfl)
theorem dJ10_newCapacity_53 : decode cJ10_newCapacity 53 = .ok (.aload_n 0, 1) := dk_42 (dk_at dksJ10_newCapacity_2 6 rfl rfl)
theorem dJ10_newCapacity_54 : decode cJ10_newCapacity 54 = .ok (.getfield 22, 3) := dk_180 0 22 (dk_at dksJ10_newCapacity_2 7 rfl rfl)
theorem dJ10_newCapacity_57 : decode cJ10_newCapacity 57 = .ok (.ishr, 1) := dk_122 (dk_at dksJ10_newCapacity_2 10 rfl rfl)
theorem dJ10_newCapacity_58 : decode cJ10_newCapacity 58 = .ok (.ireturn, 1) := dk_172 (dk_at dksJ10_newCapacity_2 11 rfl rfl)
abbrev cJ10_isLatin1 : ByteArray := prog_13_method_68_code
def yJ10_isLatin1 : MethodName := ⟨RJ10, "isLatin1", "()Z"⟩
def dkwJ10_isLatin1_0 : List UInt8 := [178, 0, 18, 153, 0, 14, 42, 180, 0, 22, 154, 0, 7, 4, 167, 0, 4, 3, 172]
abbrev dktJ10_isLatin1_0 : List UInt8 := dkwJ10_isLatin1_0 ++ []
theorem dksJ10_isLatin1_0 : cJ10_isLatin1.data.toList.drop 0 = dktJ10_isLatin1_0 := by decide +kernel
theorem dJ10_isLatin1_0 : decode cJ10_isLatin1 0 = .ok (.getstatic 18, 3) := dk_178 0 18 (dk_at dksJ10_isLatin1_0 0 rfl rfl)
theorem dJ10_isLatin1_3 : decode cJ10_isLatin1 3 = .ok (.ifCond .eq 14, 3) := dk_153 0 14 (dk_at dksJ10_isLatin1_0 3 rfl rfl)
theorem dJ10_isLatin1_6 : decode cJ10_isLatin1 6 = .ok (.aload_n 0, 1) := dk_42 (dk_at dksJ10_isLatin1_0 6 rfl rfl)
theorem dJ10_isLatin1_7 : decode cJ10_isLatin1 7 = .ok (.getfield 22, 3) := dk_180 0 22 (dk_at dksJ10_isLatin1_0 7 rfl rfl)
theorem dJ10_isLatin1_10 : decode cJ10_isLatin1 10 = .ok (.ifCond .ne 7, 3) := dk_154 0 7 (dk_at dksJ10_isLatin1_0 10 rfl rfl)
theorem dJ10_isLatin1_13 : decode cJ10_isLatin1 13 = .ok (.iconst 1, 1) := dk_4 (dk_at dksJ10_isLatin1_0 13 rfl rfl)
theorem dJ10_isLatin1_14 : decode cJ10_isLatin1 14 = .ok (.goto 4, 3) := dk_167 0 4 (dk_at dksJ10_isLatin1_0 14 rfl rfl)
theorem dJ10_isLatin1_17 : decode cJ10_isLatin1 17 = .ok (.iconst 0, 1) := dk_3 (dk_at dksJ10_isLatin1_0 17 rfl rfl)
theorem dJ10_isLatin1_18 : decode cJ10_isLatin1 18 = .ok (.ireturn, 1) := dk_172 (dk_at dksJ10_isLatin1_0 18 rfl rfl)
abbrev cJ10_putStringAt : ByteArray := prog_13_method_73_code
def yJ10_putStringAt : MethodName := ⟨RJ10, "putStringAt", "(ILjava/lang/String;)V"⟩
def dkwJ10_putStringAt_0 : List UInt8 := [42, 44, 182, 1, 141, 44, 42, 180, 0, 15, 27, 42, 180, 0, 22, 182, 1, 143, 177]
abbrev dktJ10_putStringAt_0 : List UInt8 := dkwJ10_putStringAt_0 ++ []
theorem dksJ10_putStringAt_0 : cJ10_putStringAt.data.toList.drop 0 = dktJ10_putStringAt_0 := by decide +kernel
theorem dJ10_putStringAt_0 : decode cJ10_putStringAt 0 = .ok (.aload_n 0, 1) := dk_42 (dk_at dksJ10_putStringAt_0 0 rfl rfl)
theorem dJ10_putStringAt_1 : decode cJ10_putStringAt 1 = .ok (.aload_n 2, 1) := dk_44 (dk_at dksJ10_putStringAt_0 1 rfl rfl)
theorem dJ10_putStringAt_2 : decode cJ10_putStringAt 2 = .ok (.invokevirtual 397, 3) := dk_182 1 141 (dk_at dksJ10_putStringAt_0 2 rfl rfl)
theorem dJ10_putStringAt_5 : decode cJ10_putStringAt 5 = .ok (.aload_n 2, 1) := dk_44 (dk_at dksJ10_putStringAt_0 5 rfl rfl)
theorem dJ10_putStringAt_6 : decode cJ10_putStringAt 6 = .ok (.aload_n 0, 1) := dk_42 (dk_at dksJ10_putStringAt_0 6 rfl rfl)
theorem dJ10_putStringAt_7 : decode cJ10_putStringAt 7 = .ok (.getfield 15, 3) := dk_180 0 15 (dk_at dksJ10_putStringAt_0 7 rfl rfl)
theorem dJ10_putStringAt_10 : decode cJ10_putStringAt 10 = .ok (.iload_n 1, 1) := dk_27 (dk_at dksJ10_putStringAt_0 10 rfl rfl)
theorem dJ10_putStringAt_11 : decode cJ10_putStringAt 11 = .ok (.aload_n 0, 1) := dk_42 (dk_at dksJ10_putStringAt_0 11 rfl rfl)
theorem dJ10_putStringAt_12 : decode cJ10_putStringAt 12 = .ok (.getfield 22, 3) := dk_180 0 22 (dk_at dksJ10_putStringAt_0 12 rfl rfl)
theorem dJ10_putStringAt_15 : decode cJ10_putStringAt 15 = .ok (.invokevirtual 399, 3) := dk_182 1 143 (dk_at dksJ10_putStringAt_0 15 rfl rfl)
theorem dJ10_putStringAt_18 : decode cJ10_putStringAt 18 = .ok (.return_, 1) := dk_177 (dk_at dksJ10_putStringAt_0 18 rfl rfl)
abbrev cJ10_inflateIfNeededFor : ByteArray := prog_13_method_71_code
def yJ10_inflateIfNeededFor : MethodName := ⟨RJ10, "inflateIfNeededFor", "(Ljava/lang/String;)V"⟩
def dkwJ10_inflateIfNeededFor_0 : List UInt8 := [178, 0, 18, 153, 0, 18, 42, 180, 0, 22, 43, 182, 0, 40, 159, 0, 7, 42, 182, 0, 195, 177]
abbrev dktJ10_inflateIfNeededFor_0 : List UInt8 := dkwJ10_inflateIfNeededFor_0 ++ []
theorem dksJ10_inflateIfNeededFor_0 : cJ10_inflateIfNeededFor.data.toList.drop 0 = dktJ10_inflateIfNeededFor_0 := by decide +kernel
theorem dJ10_inflateIfNeededFor_0 : decode cJ10_inflateIfNeededFor 0 = .ok (.getstatic 18, 3) := dk_178 0 18 (dk_at dksJ10_inflateIfNeededFor_0 0 rfl rfl)
theorem dJ10_inflateIfNeededFor_3 : decode cJ10_inflateIfNeededFor 3 = .ok (.ifCond .eq 18, 3) := dk_153 0 18 (dk_at dksJ10_inflateIfNeededFor_0 3 rfl rfl)
theorem dJ10_inflateIfNeededFor_6 : decode cJ10_inflateIfNeededFor 6 = .ok (.aload_n 0, 1) := dk_42 (dk_at dksJ10_inflateIfNeededFor_0 6 rfl rfl)
theorem dJ10_inflateIfNeededFor_7 : decode cJ10_inflateIfNeededFor 7 = .ok (.getfield 22, 3) := dk_180 0 22 (dk_at dksJ10_inflateIfNeededFor_0 7 rfl rfl)
theorem dJ10_inflateIfNeededFor_10 : decode cJ10_inflateIfNeededFor 10 = .ok (.aload_n 1, 1) := dk_43 (dk_at dksJ10_inflateIfNeededFor_0 10 rfl rfl)
theorem dJ10_inflateIfNeededFor_11 : decode cJ10_inflateIfNeededFor 11 = .ok (.invokevirtual 40, 3) := dk_182 0 40 (dk_at dksJ10_inflateIfNeededFor_0 11 rfl rfl)
theorem dJ10_inflateIfNeededFor_14 : decode cJ10_inflateIfNeededFor 14 = .ok (.if_icmp .eq 7, 3) := dk_159 0 7 (dk_at dksJ10_inflateIfNeededFor_0 14 rfl rfl)
theorem dJ10_inflateIfNeededFor_17 : decode cJ10_inflateIfNeededFor 17 = .ok (.aload_n 0, 1) := dk_42 (dk_at dksJ10_inflateIfNeededFor_0 17 rfl rfl)
theorem dJ10_inflateIfNeededFor_18 : decode cJ10_inflateIfNeededFor 18 = .ok (.invokevirtual 195, 3) := dk_182 0 195 (dk_at dksJ10_inflateIfNeededFor_0 18 rfl rfl)
theorem dJ10_inflateIfNeededFor_21 : decode cJ10_inflateIfNeededFor 21 = .ok (.return_, 1) := dk_177 (dk_at dksJ10_inflateIfNeededFor_0 21 rfl rfl)
abbrev cJ10_inflate : ByteArray := prog_13_method_11_code
def yJ10_inflate : MethodName := ⟨RJ10, "inflate", "()V"⟩
def dkwJ10_inflate_1 : List UInt8 := [42, 180, 0, 79, 184, 0, 125, 42, 43, 181, 0, 15, 42, 4, 181, 0, 22, 177]
abbrev dktJ10_inflate_1 : List UInt8 := dkwJ10_inflate_1 ++ []
def dkwJ10_inflate_0 : List UInt8 := [42, 182, 0, 83, 154, 0, 4, 177, 42, 180, 0, 15, 190, 184, 0, 26, 76, 42, 180, 0, 15, 3, 43, 3]
abbrev dktJ10_inflate_0 : List UInt8 := dkwJ10_inflate_0 ++ dktJ10_inflate_1
theorem dksJ10_inflate_0 : cJ10_inflate.data.toList.drop 0 = dktJ10_inflate_0 := by decide +kernel
theorem dksJ10_inflate_1 : cJ10_inflate.data.toList.drop 24 = dktJ10_inflate_1 := dk_seg dksJ10_inflate_0 24 rfl rfl
theorem dJ10_inflate_0 : decode cJ10_inflate 0 = .ok (.aload_n 0, 1) := dk_42 (dk_at dksJ10_inflate_0 0 rfl rfl)
theorem dJ10_inflate_1 : decode cJ10_inflate 1 = .ok (.invokevirtual 83, 3) := dk_182 0 83 (dk_at dksJ10_inflate_0 1 rfl rfl)
theorem dJ10_inflate_4 : decode cJ10_inflate 4 = .ok (.ifCond .ne 4, 3) := dk_154 0 4 (dk_at dksJ10_inflate_0 4 rfl rfl)
theorem dJ10_inflate_7 : decode cJ10_inflate 7 = .ok (.return_, 1) := dk_177 (dk_at dksJ10_inflate_0 7 rfl rfl)
theorem dJ10_inflate_8 : decode cJ10_inflate 8 = .ok (.aload_n 0, 1) := dk_42 (dk_at dksJ10_inflate_0 8 rfl rfl)
theorem dJ10_inflate_9 : decode cJ10_inflate 9 = .ok (.getfield 15, 3) := dk_180 0 15 (dk_at dksJ10_inflate_0 9 rfl rfl)
theorem dJ10_inflate_12 : decode cJ10_inflate 12 = .ok (.arraylength, 1) := dk_190 (dk_at dksJ10_inflate_0 12 rfl rfl)
theorem dJ10_inflate_13 : decode cJ10_inflate 13 = .ok (.invokestatic 26, 3) := dk_184 0 26 (dk_at dksJ10_inflate_0 13 rfl rfl)
theorem dJ10_inflate_16 : decode cJ10_inflate 16 = .ok (.astore_n 1, 1) := dk_76 (dk_at dksJ10_inflate_0 16 rfl rfl)
theorem dJ10_inflate_17 : decode cJ10_inflate 17 = .ok (.aload_n 0, 1) := dk_42 (dk_at dksJ10_inflate_0 17 rfl rfl)
theorem dJ10_inflate_18 : decode cJ10_inflate 18 = .ok (.getfield 15, 3) := dk_180 0 15 (dk_at dksJ10_inflate_0 18 rfl rfl)
theorem dJ10_inflate_21 : decode cJ10_inflate 21 = .ok (.iconst 0, 1) := dk_3 (dk_at dksJ10_inflate_0 21 rfl rfl)
theorem dJ10_inflate_22 : decode cJ10_inflate 22 = .ok (.aload_n 1, 1) := dk_43 (dk_at dksJ10_inflate_0 22 rfl rfl)
theorem dJ10_inflate_23 : decode cJ10_inflate 23 = .ok (.iconst 0, 1) := dk_3 (dk_at dksJ10_inflate_0 23 rfl rfl)
theorem dJ10_inflate_24 : decode cJ10_inflate 24 = .ok (.aload_n 0, 1) := dk_42 (dk_at dksJ10_inflate_1 0 rfl rfl)
theorem dJ10_inflate_25 : decode cJ10_inflate 25 = .ok (.getfield 79, 3) := dk_180 0 79 (dk_at dksJ10_inflate_1 1 rfl rfl)
theorem dJ10_inflate_28 : decode cJ10_inflate 28 = .ok (.invokestatic 125, 3) := dk_184 0 125 (dk_at dksJ10_inflate_1 4 rfl rfl)
theorem dJ10_inflate_31 : decode cJ10_inflate 31 = .ok (.aload_n 0, 1) := dk_42 (dk_at dksJ10_inflate_1 7 rfl rfl)
theorem dJ10_inflate_32 : decode cJ10_inflate 32 = .ok (.aload_n 1, 1) := dk_43 (dk_at dksJ10_inflate_1 8 rfl rfl)
theorem dJ10_inflate_33 : decode cJ10_inflate 33 = .ok (.putfield 15, 3) := dk_181 0 15 (dk_at dksJ10_inflate_1 9 rfl rfl)
theorem dJ10_inflate_36 : decode cJ10_inflate 36 = .ok (.aload_n 0, 1) := dk_42 (dk_at dksJ10_inflate_1 12 rfl rfl)
theorem dJ10_inflate_37 : decode cJ10_inflate 37 = .ok (.iconst 1, 1) := dk_4 (dk_at dksJ10_inflate_1 13 rfl rfl)
theorem dJ10_inflate_38 : decode cJ10_inflate 38 = .ok (.putfield 22, 3) := dk_181 0 22 (dk_at dksJ10_inflate_1 14 rfl rfl)
theorem dJ10_inflate_41 : decode cJ10_inflate 41 = .ok (.return_, 1) := dk_177 (dk_at dksJ10_inflate_1 17 rfl rfl)
abbrev cJ10_append_2 : ByteArray := prog_13_method_32_code
def yJ10_append_2 : MethodName := ⟨RJ10, "append", "(I)Ljava/lang/AbstractStringBuilder;"⟩
def dkwJ10_append_2_2 : List UInt8 := [42, 29, 181, 0, 79, 42, 176]
abbrev dktJ10_append_2_2 : List UInt8 := dkwJ10_append_2_2 ++ []
def dkwJ10_append_2_1 : List UInt8 := [27, 29, 42, 180, 0, 15, 184, 0, 248, 87, 167, 0, 14, 27, 28, 29, 42, 180, 0, 15, 184, 0, 251, 87]
abbrev dktJ10_append_2_1 : List UInt8 := dkwJ10_append_2_1 ++ dktJ10_append_2_2
def dkwJ10_append_2_0 : List UInt8 := [42, 180, 0, 79, 61, 28, 27, 184, 0, 245, 96, 62, 42, 29, 182, 0, 100, 42, 182, 0, 83, 153, 0, 16]
abbrev dktJ10_append_2_0 : List UInt8 := dkwJ10_append_2_0 ++ dktJ10_append_2_1
theorem dksJ10_append_2_0 : cJ10_append_2.data.toList.drop 0 = dktJ10_append_2_0 := by decide +kernel
theorem dksJ10_append_2_1 : cJ10_append_2.data.toList.drop 24 = dktJ10_append_2_1 := dk_seg dksJ10_append_2_0 24 rfl rfl
theorem dksJ10_append_2_2 : cJ10_append_2.data.toList.drop 48 = dktJ10_append_2_2 := dk_seg dksJ10_append_2_1 24 rfl rfl
theorem dJ10_append_2_0 : decode cJ10_append_2 0 = .ok (.aload_n 0, 1) := dk_42 (dk_at dksJ10_append_2_0 0 rfl rfl)
theorem dJ10_append_2_1 : decode cJ10_append_2 1 = .ok (.getfield 79, 3) := dk_180 0 79 (dk_at dksJ10_append_2_0 1 rfl rfl)
theorem dJ10_append_2_4 : decode cJ10_append_2 4 = .ok (.istore_n 2, 1) := dk_61 (dk_at dksJ10_append_2_0 4 rfl rfl)
theorem dJ10_append_2_5 : decode cJ10_append_2 5 = .ok (.iload_n 2, 1) := dk_28 (dk_at dksJ10_append_2_0 5 rfl rfl)
theorem dJ10_append_2_6 : decode cJ10_append_2 6 = .ok (.iload_n 1, 1) := dk_27 (dk_at dksJ10_append_2_0 6 rfl rfl)
theorem dJ10_append_2_7 : decode cJ10_append_2 7 = .ok (.invokestatic 245, 3) := dk_184 0 245 (dk_at dksJ10_append_2_0 7 rfl rfl)
theorem dJ10_append_2_10 : decode cJ10_append_2 10 = .ok (.iadd, 1) := dk_96 (dk_at dksJ10_append_2_0 10 rfl rfl)
theorem dJ10_append_2_11 : decode cJ10_append_2 11 = .ok (.istore_n 3, 1) := dk_62 (dk_at dksJ10_append_2_0 11 rfl rfl)
theorem dJ10_append_2_12 : decode cJ10_append_2 12 = .ok (.aload_n 0, 1) := dk_42 (dk_at dksJ10_append_2_0 12 rfl rfl)
theorem dJ10_append_2_13 : decode cJ10_append_2 13 = .ok (.iload_n 3, 1) := dk_29 (dk_at dksJ10_append_2_0 13 rfl rfl)
theorem dJ10_append_2_14 : decode cJ10_append_2 14 = .ok (.invokevirtual 100, 3) := dk_182 0 100 (dk_at dksJ10_append_2_0 14 rfl rfl)
theorem dJ10_append_2_17 : decode cJ10_append_2 17 = .ok (.aload_n 0, 1) := dk_42 (dk_at dksJ10_append_2_0 17 rfl rfl)
theorem dJ10_append_2_18 : decode cJ10_append_2 18 = .ok (.invokevirtual 83, 3) := dk_182 0 83 (dk_at dksJ10_append_2_0 18 rfl rfl)
theorem dJ10_append_2_21 : decode cJ10_append_2 21 = .ok (.ifCond .eq 16, 3) := dk_153 0 16 (dk_at dksJ10_append_2_0 21 rfl rfl)
theorem dJ10_append_2_24 : decode cJ10_append_2 24 = .ok (.iload_n 1, 1) := dk_27 (dk_at dksJ10_append_2_1 0 rfl rfl)
theorem dJ10_append_2_25 : decode cJ10_append_2 25 = .ok (.iload_n 3, 1) := dk_29 (dk_at dksJ10_append_2_1 1 rfl rfl)
theorem dJ10_append_2_26 : decode cJ10_append_2 26 = .ok (.aload_n 0, 1) := dk_42 (dk_at dksJ10_append_2_1 2 rfl rfl)
theorem dJ10_append_2_27 : decode cJ10_append_2 27 = .ok (.getfield 15, 3) := dk_180 0 15 (dk_at dksJ10_append_2_1 3 rfl rfl)
theorem dJ10_append_2_30 : decode cJ10_append_2 30 = .ok (.invokestatic 248, 3) := dk_184 0 248 (dk_at dksJ10_append_2_1 6 rfl rfl)
theorem dJ10_append_2_33 : decode cJ10_append_2 33 = .ok (.pop, 1) := dk_87 (dk_at dksJ10_append_2_1 9 rfl rfl)
theorem dJ10_append_2_34 : decode cJ10_append_2 34 = .ok (.goto 14, 3) := dk_167 0 14 (dk_at dksJ10_append_2_1 10 rfl rfl)
theorem dJ10_append_2_37 : decode cJ10_append_2 37 = .ok (.iload_n 1, 1) := dk_27 (dk_at dksJ10_append_2_1 13 rfl rfl)
theorem dJ10_append_2_38 : decode cJ10_append_2 38 = .ok (.iload_n 2, 1) := dk_28 (dk_at dksJ10_append_2_1 14 rfl rfl)
theorem dJ10_append_2_39 : decode cJ10_append_2 39 = .ok (.iload_n 3, 1) := dk_29 (dk_at dksJ10_append_2_1 15 rfl rfl)
theorem dJ10_append_2_40 : decode cJ10_append_2 40 = .ok (.aload_n 0, 1) := dk_42 (dk_at dksJ10_append_2_1 16 rfl rfl)
theorem dJ10_append_2_41 : decode cJ10_append_2 41 = .ok (.getfield 15, 3) := dk_180 0 15 (dk_at dksJ10_append_2_1 17 rfl rfl)
theorem dJ10_append_2_44 : decode cJ10_append_2 44 = .ok (.invokestatic 251, 3) := dk_184 0 251 (dk_at dksJ10_append_2_1 20 rfl rfl)
theorem dJ10_append_2_47 : decode cJ10_append_2 47 = .ok (.pop, 1) := dk_87 (dk_at dksJ10_append_2_1 23 rfl rfl)
theorem dJ10_append_2_48 : decode cJ10_append_2 48 = .ok (.aload_n 0, 1) := dk_42 (dk_at dksJ10_append_2_2 0 rfl rfl)
theorem dJ10_append_2_49 : decode cJ10_append_2 49 = .ok (.iload_n 3, 1) := dk_29 (dk_at dksJ10_append_2_2 1 rfl rfl)
theorem dJ10_append_2_50 : decode cJ10_append_2 50 = .ok (.putfield 79, 3) := dk_181 0 79 (dk_at dksJ10_append_2_2 2 rfl rfl)
theorem dJ10_append_2_53 : decode cJ10_append_2 53 = .ok (.aload_n 0, 1) := dk_42 (dk_at dksJ10_append_2_2 5 rfl rfl)
theorem dJ10_append_2_54 : decode cJ10_append_2 54 = .ok (.areturn, 1) := dk_176 (dk_at dksJ10_append_2_2 6 rfl rfl)
abbrev cJ10_getValue : ByteArray := prog_13_method_64_code
def yJ10_getValue : MethodName := ⟨RJ10, "getValue", "()[B"⟩
theorem dJ10_getValue_0 : decode cJ10_getValue 0 = .ok (.aload_n 0, 1) := by decide +kernel
theorem dJ10_getValue_1 : decode cJ10_getValue 1 = .ok (.getfield 15, 3) := by decide +kernel
theorem dJ10_getValue_4 : decode cJ10_getValue 4 = .ok (.areturn, 1) := by decide +kernel
abbrev cJ10_charAt : ByteArray := prog_13_method_14_code
def yJ10_charAt : MethodName := ⟨RJ10, "charAt", "(I)C"⟩
def dkwJ10_charAt_1 : List UInt8 := [21, 4, 184, 0, 144, 28, 154, 0, 12, 45, 27, 51, 17, 0, 255, 126, 146, 172, 45, 27, 184, 0, 148, 172]
abbrev dktJ10_charAt_1 : List UInt8 := dkwJ10_charAt_1 ++ []
def dkwJ10_charAt_0 : List UInt8 := [42, 180, 0, 22, 61, 42, 180, 0, 15, 78, 42, 180, 0, 79, 45, 190, 28, 122, 184, 0, 138, 54, 4, 27]
abbrev dktJ10_charAt_0 : List UInt8 := dkwJ10_charAt_0 ++ dktJ10_charAt_1
theorem dksJ10_charAt_0 : cJ10_charAt.data.toList.drop 0 = dktJ10_charAt_0 := by decide +kernel
theorem dksJ10_charAt_1 : cJ10_charAt.data.toList.drop 24 = dktJ10_charAt_1 := dk_seg dksJ10_charAt_0 24 rfl rfl
theorem dJ10_charAt_0 : decode cJ10_charAt 0 = .ok (.aload_n 0, 1) := dk_42 (dk_at dksJ10_charAt_0 0 rfl rfl)
theorem dJ10_charAt_1 : decode cJ10_charAt 1 = .ok (.getfield 22, 3) := dk_180 0 22 (dk_at dksJ10_charAt_0 1 rfl rfl)
theorem dJ10_charAt_4 : decode cJ10_charAt 4 = .ok (.istore_n 2, 1) := dk_61 (dk_at dksJ10_charAt_0 4 rfl rfl)
theorem dJ10_charAt_5 : decode cJ10_charAt 5 = .ok (.aload_n 0, 1) := dk_42 (dk_at dksJ10_charAt_0 5 rfl rfl)
theorem dJ10_charAt_6 : decode cJ10_charAt 6 = .ok (.getfield 15, 3) := dk_180 0 15 (dk_at dksJ10_charAt_0 6 rfl rfl)
theorem dJ10_charAt_9 : decode cJ10_charAt 9 = .ok (.astore_n 3, 1) := dk_78 (dk_at dksJ10_charAt_0 9 rfl rfl)
theorem dJ10_charAt_10 : decode cJ10_charAt 10 = .ok (.aload_n 0, 1) := dk_42 (dk_at dksJ10_charAt_0 10 rfl rfl)
theorem dJ10_charAt_11 : decode cJ10_charAt 11 = .ok (.getfield 79, 3) := dk_180 0 79 (dk_at dksJ10_charAt_0 11 rfl rfl)
theorem dJ10_charAt_14 : decode cJ10_charAt 14 = .ok (.aload_n 3, 1) := dk_45 (dk_at dksJ10_charAt_0 14 rfl rfl)
theorem dJ10_charAt_15 : decode cJ10_charAt 15 = .ok (.arraylength, 1) := dk_190 (dk_at dksJ10_charAt_0 15 rfl rfl)
theorem dJ10_charAt_16 : decode cJ10_charAt 16 = .ok (.iload_n 2, 1) := dk_28 (dk_at dksJ10_charAt_0 16 rfl rfl)
theorem dJ10_charAt_17 : decode cJ10_charAt 17 = .ok (.ishr, 1) := dk_122 (dk_at dksJ10_charAt_0 17 rfl rfl)
theorem dJ10_charAt_18 : decode cJ10_charAt 18 = .ok (.invokestatic 138, 3) := dk_184 0 138 (dk_at dksJ10_charAt_0 18 rfl rfl)
theorem dJ10_charAt_21 : decode cJ10_charAt 21 = .ok (.istore 4, 2) := dk_54 4 (dk_at dksJ10_charAt_0 21 rfl rfl)
theorem dJ10_charAt_23 : decode cJ10_charAt 23 = .ok (.iload_n 1, 1) := dk_27 (dk_at dksJ10_charAt_0 23 rfl rfl)
theorem dJ10_charAt_24 : decode cJ10_charAt 24 = .ok (.iload 4, 2) := dk_21 4 (dk_at dksJ10_charAt_1 0 rfl rfl)
theorem dJ10_charAt_26 : decode cJ10_charAt 26 = .ok (.invokestatic 144, 3) := dk_184 0 144 (dk_at dksJ10_charAt_1 2 rfl rfl)
theorem dJ10_charAt_29 : decode cJ10_charAt 29 = .ok (.iload_n 2, 1) := dk_28 (dk_at dksJ10_charAt_1 5 rfl rfl)
theorem dJ10_charAt_30 : decode cJ10_charAt 30 = .ok (.ifCond .ne 12, 3) := dk_154 0 12 (dk_at dksJ10_charAt_1 6 rfl rfl)
theorem dJ10_charAt_33 : decode cJ10_charAt 33 = .ok (.aload_n 3, 1) := dk_45 (dk_at dksJ10_charAt_1 9 rfl rfl)
theorem dJ10_charAt_34 : decode cJ10_charAt 34 = .ok (.iload_n 1, 1) := dk_27 (dk_at dksJ10_charAt_1 10 rfl rfl)
theorem dJ10_charAt_35 : decode cJ10_charAt 35 = .ok (.baload, 1) := dk_51 (dk_at dksJ10_charAt_1 11 rfl rfl)
theorem dJ10_charAt_36 : decode cJ10_charAt 36 = .ok (.sipush 255, 3) := dk_17 0 255 (dk_at dksJ10_charAt_1 12 rfl rfl)
theorem dJ10_charAt_39 : decode cJ10_charAt 39 = .ok (.iand, 1) := dk_126 (dk_at dksJ10_charAt_1 15 rfl rfl)
theorem dJ10_charAt_40 : decode cJ10_charAt 40 = .ok (.i2c, 1) := dk_146 (dk_at dksJ10_charAt_1 16 rfl rfl)
theorem dJ10_charAt_41 : decode cJ10_charAt 41 = .ok (.ireturn, 1) := dk_172 (dk_at dksJ10_charAt_1 17 rfl rfl)
theorem dJ10_charAt_42 : decode cJ10_charAt 42 = .ok (.aload_n 3, 1) := dk_45 (dk_at dksJ10_charAt_1 18 rfl rfl)
theorem dJ10_charAt_43 : decode cJ10_charAt 43 = .ok (.iload_n 1, 1) := dk_27 (dk_at dksJ10_charAt_1 19 rfl rfl)
theorem dJ10_charAt_44 : decode cJ10_charAt 44 = .ok (.invokestatic 148, 3) := dk_184 0 148 (dk_at dksJ10_charAt_1 20 rfl rfl)
theorem dJ10_charAt_47 : decode cJ10_charAt 47 = .ok (.ireturn, 1) := dk_172 (dk_at dksJ10_charAt_1 23 rfl rfl)
abbrev cJ10_append_3 : ByteArray := prog_13_method_31_code
def yJ10_append_3 : MethodName := ⟨RJ10, "append", "(C)Ljava/lang/AbstractStringBuilder;"⟩
def dkwJ10_append_3_3 : List UInt8 := [181, 0, 79, 27, 184, 0, 197, 42, 176]
abbrev dktJ10_append_3_3 : List UInt8 := dkwJ10_append_3_3 ++ []
def dkwJ10_append_3_2 : List UInt8 := [182, 0, 83, 153, 0, 7, 42, 182, 0, 195, 42, 180, 0, 15, 42, 89, 180, 0, 79, 90, 4, 96]
abbrev dktJ10_append_3_2 : List UInt8 := dkwJ10_append_3_2 ++ dktJ10_append_3_3
def dkwJ10_append_3_1 : List UInt8 := [42, 180, 0, 15, 42, 89, 180, 0, 79, 90, 4, 96, 181, 0, 79, 27, 145, 84, 167, 0, 33, 42]
abbrev dktJ10_append_3_1 : List UInt8 := dkwJ10_append_3_1 ++ dktJ10_append_3_2
def dkwJ10_append_3_0 : List UInt8 := [42, 42, 180, 0, 79, 4, 96, 182, 0, 100, 42, 182, 0, 83, 153, 0, 31, 27, 184, 0, 191, 153, 0, 24]
abbrev dktJ10_append_3_0 : List UInt8 := dkwJ10_append_3_0 ++ dktJ10_append_3_1
theorem dksJ10_append_3_0 : cJ10_append_3.data.toList.drop 0 = dktJ10_append_3_0 := by decide +kernel
theorem dksJ10_append_3_1 : cJ10_append_3.data.toList.drop 24 = dktJ10_append_3_1 := dk_seg dksJ10_append_3_0 24 rfl rfl
theorem dksJ10_append_3_2 : cJ10_append_3.data.toList.drop 46 = dktJ10_append_3_2 := dk_seg dksJ10_append_3_1 22 rfl rfl
theorem dksJ10_append_3_3 : cJ10_append_3.data.toList.drop 68 = dktJ10_append_3_3 := dk_seg dksJ10_append_3_2 22 rfl rfl
theorem dJ10_append_3_0 : decode cJ10_append_3 0 = .ok (.aload_n 0, 1) := dk_42 (dk_at dksJ10_append_3_0 0 rfl rfl)
theorem dJ10_append_3_1 : decode cJ10_append_3 1 = .ok (.aload_n 0, 1) := dk_42 (dk_at dksJ10_append_3_0 1 rfl rfl)
theorem dJ10_append_3_2 : decode cJ10_append_3 2 = .ok (.getfield 79, 3) := dk_180 0 79 (dk_at dksJ10_append_3_0 2 rfl rfl)
theorem dJ10_append_3_5 : decode cJ10_append_3 5 = .ok (.iconst 1, 1) := dk_4 (dk_at dksJ10_append_3_0 5 rfl rfl)
theorem dJ10_append_3_6 : decode cJ10_append_3 6 = .ok (.iadd, 1) := dk_96 (dk_at dksJ10_append_3_0 6 rfl rfl)
theorem dJ10_append_3_7 : decode cJ10_append_3 7 = .ok (.invokevirtual 100, 3) := dk_182 0 100 (dk_at dksJ10_append_3_0 7 rfl rfl)
theorem dJ10_append_3_10 : decode cJ10_append_3 10 = .ok (.aload_n 0, 1) := dk_42 (dk_at dksJ10_append_3_0 10 rfl rfl)
theorem dJ10_append_3_11 : decode cJ10_append_3 11 = .ok (.invokevirtual 83, 3) := dk_182 0 83 (dk_at dksJ10_append_3_0 11 rfl rfl)
theorem dJ10_append_3_14 : decode cJ10_append_3 14 = .ok (.ifCond .eq 31, 3) := dk_153 0 31 (dk_at dksJ10_append_3_0 14 rfl rfl)
theorem dJ10_append_3_17 : decode cJ10_append_3 17 = .ok (.iload_n 1, 1) := dk_27 (dk_at dksJ10_append_3_0 17 rfl rfl)
theorem dJ10_append_3_18 : decode cJ10_append_3 18 = .ok (.invokestatic 191, 3) := dk_184 0 191 (dk_at dksJ10_append_3_0 18 rfl rfl)
theorem dJ10_append_3_21 : decode cJ10_append_3 21 = .ok (.ifCond .eq 24, 3) := dk_153 0 24 (dk_at dksJ10_append_3_0 21 rfl rfl)
theorem dJ10_append_3_24 : decode cJ10_append_3 24 = .ok (.aload_n 0, 1) := dk_42 (dk_at dksJ10_append_3_1 0 rfl rfl)
theorem dJ10_append_3_25 : decode cJ10_append_3 25 = .ok (.getfield 15, 3) := dk_180 0 15 (dk_at dksJ10_append_3_1 1 rfl rfl)
theorem dJ10_append_3_28 : decode cJ10_append_3 28 = .ok (.aload_n 0, 1) := dk_42 (dk_at dksJ10_append_3_1 4 rfl rfl)
theorem dJ10_append_3_29 : decode cJ10_append_3 29 = .ok (.dup, 1) := dk_89 (dk_at dksJ10_append_3_1 5 rfl rfl)
theorem dJ10_append_3_30 : decode cJ10_append_3 30 = .ok (.getfield 79, 3) := dk_180 0 79 (dk_at dksJ10_append_3_1 6 rfl rfl)
theorem dJ10_append_3_33 : decode cJ10_append_3 33 = .ok (.dup_x1, 1) := dk_90 (dk_at dksJ10_append_3_1 9 rfl rfl)
theorem dJ10_append_3_34 : decode cJ10_append_3 34 = .ok (.iconst 1, 1) := dk_4 (dk_at dksJ10_append_3_1 10 rfl rfl)
theorem dJ10_append_3_35 : decode cJ10_append_3 35 = .ok (.iadd, 1) := dk_96 (dk_at dksJ10_append_3_1 11 rfl rfl)
theorem dJ10_append_3_36 : decode cJ10_append_3 36 = .ok (.putfield 79, 3) := dk_181 0 79 (dk_at dksJ10_append_3_1 12 rfl rfl)
theorem dJ10_append_3_39 : decode cJ10_append_3 39 = .ok (.iload_n 1, 1) := dk_27 (dk_at dksJ10_append_3_1 15 rfl rfl)
theorem dJ10_append_3_40 : decode cJ10_append_3 40 = .ok (.i2b, 1) := dk_145 (dk_at dksJ10_append_3_1 16 rfl rfl)
theorem dJ10_append_3_41 : decode cJ10_append_3 41 = .ok (.bastore, 1) := dk_84 (dk_at dksJ10_append_3_1 17 rfl rfl)
theorem dJ10_append_3_42 : decode cJ10_append_3 42 = .ok (.goto 33, 3) := dk_167 0 33 (dk_at dksJ10_append_3_1 18 rfl rfl)
theorem dJ10_append_3_45 : decode cJ10_append_3 45 = .ok (.aload_n 0, 1) := dk_42 (dk_at dksJ10_append_3_1 21 rfl rfl)
theorem dJ10_append_3_46 : decode cJ10_append_3 46 = .ok (.invokevirtual 83, 3) := dk_182 0 83 (dk_at dksJ10_append_3_2 0 rfl rfl)
theorem dJ10_append_3_49 : decode cJ10_append_3 49 = .ok (.ifCond .eq 7, 3) := dk_153 0 7 (dk_at dksJ10_append_3_2 3 rfl rfl)
theorem dJ10_append_3_52 : decode cJ10_append_3 52 = .ok (.aload_n 0, 1) := dk_42 (dk_at dksJ10_append_3_2 6 rfl rfl)
theorem dJ10_append_3_53 : decode cJ10_append_3 53 = .ok (.invokevirtual 195, 3) := dk_182 0 195 (dk_at dksJ10_append_3_2 7 rfl rfl)
theorem dJ10_append_3_56 : decode cJ10_append_3 56 = .ok (.aload_n 0, 1) := dk_42 (dk_at dksJ10_append_3_2 10 rfl rfl)
theorem dJ10_append_3_57 : decode cJ10_append_3 57 = .ok (.getfield 15, 3) := dk_180 0 15 (dk_at dksJ10_append_3_2 11 rfl rfl)
theorem dJ10_append_3_60 : decode cJ10_append_3 60 = .ok (.aload_n 0, 1) := dk_42 (dk_at dksJ10_append_3_2 14 rfl rfl)
theorem dJ10_append_3_61 : decode cJ10_append_3 61 = .ok (.dup, 1) := dk_89 (dk_at dksJ10_append_3_2 15 rfl rfl)
theorem dJ10_append_3_62 : decode cJ10_append_3 62 = .ok (.getfield 79, 3) := dk_180 0 79 (dk_at dksJ10_append_3_2 16 rfl rfl)
theorem dJ10_append_3_65 : decode cJ10_append_3 65 = .ok (.dup_x1, 1) := dk_90 (dk_at dksJ10_append_3_2 19 rfl rfl)
theorem dJ10_append_3_66 : decode cJ10_append_3 66 = .ok (.iconst 1, 1) := dk_4 (dk_at dksJ10_append_3_2 20 rfl rfl)
theorem dJ10_append_3_67 : decode cJ10_append_3 67 = .ok (.iadd, 1) := dk_96 (dk_at dksJ10_append_3_2 21 rfl rfl)
theorem dJ10_append_3_68 : decode cJ10_append_3 68 = .ok (.putfield 79, 3) := dk_181 0 79 (dk_at dksJ10_append_3_3 0 rfl rfl)
theorem dJ10_append_3_71 : decode cJ10_append_3 71 = .ok (.iload_n 1, 1) := dk_27 (dk_at dksJ10_append_3_3 3 rfl rfl)
theorem dJ10_append_3_72 : decode cJ10_append_3 72 = .ok (.invokestatic 197, 3) := dk_184 0 197 (dk_at dksJ10_append_3_3 4 rfl rfl)
theorem dJ10_append_3_75 : decode cJ10_append_3 75 = .ok (.aload_n 0, 1) := dk_42 (dk_at dksJ10_append_3_3 7 rfl rfl)
theorem dJ10_append_3_76 : decode cJ10_append_3 76 = .ok (.areturn, 1) := dk_176 (dk_at dksJ10_append_3_3 8 rfl rfl)
theorem q125 : (Jvm.Cond.initialized "java/lang/AbstractStringBuilder") ∈ lw_all := lw_g (lw_at lw_m1 20 rfl) rfl
theorem q467 : (Jvm.Cond.instanceMethod ({ cls := "java/lang/AbstractStringBuilder", name := "<init>", desc := "(I)V" } : Jvm.MethodName)) ∈ lw_all := lw_g (lw_at lw_m2 122 rfl) rfl
theorem q468 : (Jvm.Cond.code ({ cls := "java/lang/AbstractStringBuilder", name := "<init>", desc := "(I)V" } : Jvm.MethodName) prog_13_method_2_code (2 : Nat) (Option.none : Option Jvm.ClassFile.FieldType)) ∈ lw_all := lw_g (lw_at lw_m2 123 rfl) rfl
theorem q469 : (Jvm.Cond.methodLink "java/lang/AbstractStringBuilder" (3 : Nat) ({ cls := "java/lang/Object", name := "<init>", desc := "()V" } : Jvm.MethodName)) ∈ lw_all := lw_g (lw_at lw_m2 124 rfl) rfl
theorem q470 : (Jvm.Cond.fieldLink "java/lang/AbstractStringBuilder" (18 : Nat) "java/lang/String" "COMPACT_STRINGS" "Z") ∈ lw_all := lw_g (lw_at lw_m2 125 rfl) rfl
theorem q472 : (Jvm.Cond.methodLink "java/lang/AbstractStringBuilder" (26 : Nat) ({ cls := "java/lang/StringUTF16", name := "newBytesFor", desc := "(I)[B" } : Jvm.MethodName)) ∈ lw_all := lw_g (lw_at lw_m2 127 rfl) rfl
theorem q479 : (Jvm.Cond.fieldLink "java/lang/AbstractStringBuilder" (15 : Nat) "java/lang/AbstractStringBuilder" "value" "[B") ∈ lw_all := lw_g (lw_at lw_m2 134 rfl) rfl
theorem q480 : (Jvm.Cond.fieldLink "java/lang/AbstractStringBuilder" (22 : Nat) "java/lang/AbstractStringBuilder" "coder" "B") ∈ lw_all := lw_g (lw_at lw_m2 135 rfl) rfl
theorem q481 : (Jvm.Cond.fieldLink "java/lang/AbstractStringBuilder" (73 : Nat) "java/lang/AbstractStringBuilder" "maybeLatin1" "Z") ∈ lw_all := lw_g (lw_at lw_m2 136 rfl) rfl
theorem q483 : (Jvm.Cond.fieldLink "java/lang/AbstractStringBuilder" (79 : Nat) "java/lang/AbstractStringBuilder" "count" "I") ∈ lw_all := lw_g (lw_at lw_m2 138 rfl) rfl
theorem q485 : (Jvm.Cond.soleField "java/lang/AbstractStringBuilder" "value") ∈ lw_all := lw_g (lw_at lw_m2 140 rfl) rfl
theorem q487 : (Jvm.Cond.soleField "java/lang/AbstractStringBuilder" "coder") ∈ lw_all := lw_g (lw_at lw_m2 142 rfl) rfl
theorem q489 : (Jvm.Cond.soleField "java/lang/AbstractStringBuilder" "maybeLatin1") ∈ lw_all := lw_g (lw_at lw_m2 144 rfl) rfl
theorem q491 : (Jvm.Cond.soleField "java/lang/AbstractStringBuilder" "count") ∈ lw_all := lw_g (lw_at lw_m2 146 rfl) rfl
theorem q669 : (Jvm.Cond.instanceMethod ({ cls := "java/lang/AbstractStringBuilder", name := "length", desc := "()I" } : Jvm.MethodName)) ∈ lw_all := lw_g (lw_at lw_m3 84 rfl) rfl
theorem q670 : (Jvm.Cond.code ({ cls := "java/lang/AbstractStringBuilder", name := "length", desc := "()I" } : Jvm.MethodName) prog_13_method_6_code (1 : Nat) (Option.some Jvm.ClassFile.FieldType.int)) ∈ lw_all := lw_g (lw_at lw_m3 85 rfl) rfl
theorem q676 : (Jvm.Cond.instanceMethod ({ cls := "java/lang/AbstractStringBuilder", name := "setLength", desc := "(I)V" } : Jvm.MethodName)) ∈ lw_all := lw_g (lw_at lw_m3 91 rfl) rfl
theorem q677 : (Jvm.Cond.code ({ cls := "java/lang/AbstractStringBuilder", name := "setLength", desc := "(I)V" } : Jvm.MethodName) prog_13_method_13_code (2 : Nat) (Option.none : Option Jvm.ClassFile.FieldType)) ∈ lw_all := lw_g (lw_at lw_m3 92 rfl) rfl
theorem q678 : (Jvm.Cond.classLink "java/lang/AbstractStringBuilder" (129 : Nat) "java/lang/StringIndexOutOfBoundsException") ∈ lw_all := lw_g (lw_at lw_m3 93 rfl) rfl
theorem q680 : (Jvm.Cond.methodLink "java/lang/AbstractStringBuilder" (131 : Nat) ({ cls := "java/lang/StringIndexOutOfBoundsException", name := "<init>", desc := "(I)V" } : Jvm.MethodName)) ∈ lw_all := lw_g (lw_at lw_m3 95 rfl) rfl
theorem q693 : (Jvm.Cond.instanceMethod ({ cls := "java/lang/AbstractStringBuilder", name := "append", desc := "(Ljava/lang/String;)Ljava/lang/AbstractStringBuilder;" } : Jvm.MethodName)) ∈ lw_all := lw_g (lw_at lw_m3 108 rfl) rfl
theorem q694 : (Jvm.Cond.code ({ cls := "java/lang/AbstractStringBuilder", name := "append", desc := "(Ljava/lang/String;)Ljava/lang/AbstractStringBuilder;" } : Jvm.MethodName) prog_13_method_22_code (3 : Nat) (Option.some (Jvm.ClassFile.FieldType.object "java/lang/AbstractStringBuilder"))) ∈ lw_all := lw_g (lw_at lw_m3 109 rfl) rfl
theorem q695 : (Jvm.Cond.methodLink "java/lang/AbstractStringBuilder" (204 : Nat) ({ cls := "java/lang/AbstractStringBuilder", name := "appendNull", desc := "()Ljava/lang/AbstractStringBuilder;" } : Jvm.MethodName)) ∈ lw_all := lw_g (lw_at lw_m3 110 rfl) rfl
theorem q696 : (Jvm.Cond.privateMethod ({ cls := "java/lang/AbstractStringBuilder", name := "appendNull", desc := "()Ljava/lang/AbstractStringBuilder;" } : Jvm.MethodName)) ∈ lw_tbl := lw_at lw_m3 111 rfl
theorem q697 : (Jvm.Cond.instanceMethod ({ cls := "java/lang/AbstractStringBuilder", name := "appendNull", desc := "()Ljava/lang/AbstractStringBuilder;" } : Jvm.MethodName)) ∈ lw_all := lw_g (lw_at lw_m3 112 rfl) rfl
theorem q698 : (Jvm.Cond.code ({ cls := "java/lang/AbstractStringBuilder", name := "appendNull", desc := "()Ljava/lang/AbstractStringBuilder;" } : Jvm.MethodName) prog_13_method_26_code (3 : Nat) (Option.some (Jvm.ClassFile.FieldType.object "java/lang/AbstractStringBuilder"))) ∈ lw_all := lw_g (lw_at lw_m3 113 rfl) rfl
theorem q699 : (Jvm.Cond.methodLink "java/lang/AbstractStringBuilder" (100 : Nat) ({ cls := "java/lang/AbstractStringBuilder", name := "ensureCapacityInternal", desc := "(I)V" } : Jvm.MethodName)) ∈ lw_all := lw_g (lw_at lw_m3 114 rfl) rfl
theorem q700 : (Jvm.Cond.privateMethod ({ cls := "java/lang/AbstractStringBuilder", name := "ensureCapacityInternal", desc := "(I)V" } : Jvm.MethodName)) ∈ lw_tbl := lw_at lw_m3 115 rfl
theorem q701 : (Jvm.Cond.instanceMethod ({ cls := "java/lang/AbstractStringBuilder", name := "ensureCapacityInternal", desc := "(I)V" } : Jvm.MethodName)) ∈ lw_all := lw_g (lw_at lw_m3 116 rfl) rfl
theorem q702 : (Jvm.Cond.code ({ cls := "java/lang/AbstractStringBuilder", name := "ensureCapacityInternal", desc := "(I)V" } : Jvm.MethodName) prog_13_method_9_code (3 : Nat) (Option.none : Option Jvm.ClassFile.FieldType)) ∈ lw_all := lw_g (lw_at lw_m3 117 rfl) rfl
theorem q703 : (Jvm.Cond.methodLink "java/lang/AbstractStringBuilder" (104 : Nat) ({ cls := "java/lang/AbstractStringBuilder", name := "newCapacity", desc := "(I)I" } : Jvm.MethodName)) ∈ lw_all := lw_g (lw_at lw_m3 118 rfl) rfl
theorem q704 : (Jvm.Cond.privateMethod ({ cls := "java/lang/AbstractStringBuilder", name := "newCapacity", desc := "(I)I" } : Jvm.MethodName)) ∈ lw_tbl := lw_at lw_m3 119 rfl
theorem q705 : (Jvm.Cond.instanceMethod ({ cls := "java/lang/AbstractStringBuilder", name := "newCapacity", desc := "(I)I" } : Jvm.MethodName)) ∈ lw_all := lw_g (lw_at lw_m3 120 rfl) rfl
theorem q706 : (Jvm.Cond.code ({ cls := "java/lang/AbstractStringBuilder", name := "newCapacity", desc := "(I)I" } : Jvm.MethodName) prog_13_method_10_code (6 : Nat) (Option.some Jvm.ClassFile.FieldType.int)) ∈ lw_all := lw_g (lw_at lw_m3 121 rfl) rfl
theorem q707 : (Jvm.Cond.methodLink "java/lang/AbstractStringBuilder" (114 : Nat) ({ cls := "jdk/internal/util/ArraysSupport", name := "newLength", desc := "(III)I" } : Jvm.MethodName)) ∈ lw_all := lw_g (lw_at lw_m3 122 rfl) rfl
theorem q708 : (Jvm.Cond.constant "java/lang/AbstractStringBuilder" (39 : Nat) (2147483647 : Int32)) ∈ lw_all := lw_g (lw_at lw_m3 123 rfl) rfl
theorem q709 : (Jvm.Cond.methodLink "java/lang/AbstractStringBuilder" (108 : Nat) ({ cls := "java/util/Arrays", name := "copyOf", desc := "([BI)[B" } : Jvm.MethodName)) ∈ lw_all := lw_g (lw_at lw_m3 124 rfl) rfl
theorem q719 : (Jvm.Cond.methodLink "java/lang/AbstractStringBuilder" (83 : Nat) ({ cls := "java/lang/AbstractStringBuilder", name := "isLatin1", desc := "()Z" } : Jvm.MethodName)) ∈ lw_all := lw_g (lw_at lw_m3 134 rfl) rfl
theorem q720 : (Jvm.Cond.instanceMethod ({ cls := "java/lang/AbstractStringBuilder", name := "isLatin1", desc := "()Z" } : Jvm.MethodName)) ∈ lw_all := lw_g (lw_at lw_m3 135 rfl) rfl
theorem q721 : (Jvm.Cond.sameMethod "java/lang/AbstractStringBuilder" "java/lang/AbstractStringBuilder" "isLatin1" "()Z") ∈ lw_all := lw_g (lw_at lw_m3 136 rfl) rfl
theorem q723 : (Jvm.Cond.code ({ cls := "java/lang/AbstractStringBuilder", name := "isLatin1", desc := "()Z" } : Jvm.MethodName) prog_13_method_68_code (1 : Nat) (Option.some Jvm.ClassFile.FieldType.boolean)) ∈ lw_all := lw_g (lw_at lw_m3 138 rfl) rfl
theorem q724 : (Jvm.Cond.methodLink "java/lang/AbstractStringBuilder" (226 : Nat) ({ cls := "java/lang/StringUTF16", name := "putCharsAt", desc := "([BICCCC)I" } : Jvm.MethodName)) ∈ lw_all := lw_g (lw_at lw_m3 139 rfl) rfl
theorem q750 : (Jvm.Cond.methodLink "java/lang/AbstractStringBuilder" (32 : Nat) ({ cls := "java/lang/String", name := "length", desc := "()I" } : Jvm.MethodName)) ∈ lw_all := lw_g (lw_at lw_m3 165 rfl) rfl
theorem q759 : (Jvm.Cond.methodLink "java/lang/AbstractStringBuilder" (208 : Nat) ({ cls := "java/lang/AbstractStringBuilder", name := "putStringAt", desc := "(ILjava/lang/String;)V" } : Jvm.MethodName)) ∈ lw_all := lw_g (lw_at lw_m3 174 rfl) rfl
theorem q760 : (Jvm.Cond.privateMethod ({ cls := "java/lang/AbstractStringBuilder", name := "putStringAt", desc := "(ILjava/lang/String;)V" } : Jvm.MethodName)) ∈ lw_tbl := lw_at lw_m3 175 rfl
theorem q761 : (Jvm.Cond.instanceMethod ({ cls := "java/lang/AbstractStringBuilder", name := "putStringAt", desc := "(ILjava/lang/String;)V" } : Jvm.MethodName)) ∈ lw_all := lw_g (lw_at lw_m3 176 rfl) rfl
theorem q762 : (Jvm.Cond.code ({ cls := "java/lang/AbstractStringBuilder", name := "putStringAt", desc := "(ILjava/lang/String;)V" } : Jvm.MethodName) prog_13_method_73_code (3 : Nat) (Option.none : Option Jvm.ClassFile.FieldType)) ∈ lw_all := lw_g (lw_at lw_m3 177 rfl) rfl
theorem q763 : (Jvm.Cond.methodLink "java/lang/AbstractStringBuilder" (397 : Nat) ({ cls := "java/lang/AbstractStringBuilder", name := "inflateIfNeededFor", desc := "(Ljava/lang/String;)V" } : Jvm.MethodName)) ∈ lw_all := lw_g (lw_at lw_m3 178 rfl) rfl
theorem q764 : (Jvm.Cond.privateMethod ({ cls := "java/lang/AbstractStringBuilder", name := "inflateIfNeededFor", desc := "(Ljava/lang/String;)V" } : Jvm.MethodName)) ∈ lw_tbl := lw_at lw_m3 179 rfl
theorem q765 : (Jvm.Cond.instanceMethod ({ cls := "java/lang/AbstractStringBuilder", name := "inflateIfNeededFor", desc := "(Ljava/lang/String;)V" } : Jvm.MethodName)) ∈ lw_all := lw_g (lw_at lw_m3 180 rfl) rfl
theorem q766 : (Jvm.Cond.code ({ cls := "java/lang/AbstractStringBuilder", name := "inflateIfNeededFor", desc := "(Ljava/lang/String;)V" } : Jvm.MethodName) prog_13_method_71_code (2 : Nat) (Option.none : Option Jvm.ClassFile.FieldType)) ∈ lw_all := lw_g (lw_at lw_m3 181 rfl) rfl
theorem q767 : (Jvm.Cond.methodLink "java/lang/AbstractStringBuilder" (40 : Nat) ({ cls := "java/lang/String", name := "coder", desc := "()B" } : Jvm.MethodName)) ∈ lw_all := lw_g (lw_at lw_m3 182 rfl) rfl
theorem q768 : (Jvm.Cond.methodLink "java/lang/AbstractStringBuilder" (195 : Nat) ({ cls := "java/lang/AbstractStringBuilder", name := "inflate", desc := "()V" } : Jvm.MethodName)) ∈ lw_all := lw_g (lw_at lw_m3 183 rfl) rfl
theorem q769 : (Jvm.Cond.privateMethod ({ cls := "java/lang/AbstractStringBuilder", name := "inflate", desc := "()V" } : Jvm.MethodName)) ∈ lw_tbl := lw_at lw_m3 184 rfl
theorem q770 : (Jvm.Cond.instanceMethod ({ cls := "java/lang/AbstractStringBuilder", name := "inflate", desc := "()V" } : Jvm.MethodName)) ∈ lw_all := lw_g (lw_at lw_m3 185 rfl) rfl
theorem q771 : (Jvm.Cond.code ({ cls := "java/lang/AbstractStringBuilder", name := "inflate", desc := "()V" } : Jvm.MethodName) prog_13_method_11_code (2 : Nat) (Option.none : Option Jvm.ClassFile.FieldType)) ∈ lw_all := lw_g (lw_at lw_m3 186 rfl) rfl
theorem q772 : (Jvm.Cond.methodLink "java/lang/AbstractStringBuilder" (125 : Nat) ({ cls := "java/lang/StringLatin1", name := "inflate", desc := "([BI[BII)V" } : Jvm.MethodName)) ∈ lw_all := lw_g (lw_at lw_m3 187 rfl) rfl
theorem q787 : (Jvm.Cond.methodLink "java/lang/AbstractStringBuilder" (399 : Nat) ({ cls := "java/lang/String", name := "getBytes", desc := "([BIB)V" } : Jvm.MethodName)) ∈ lw_all := lw_g (lw_at lw_m3 202 rfl) rfl
theorem q798 : (Jvm.Cond.instanceMethod ({ cls := "java/lang/AbstractStringBuilder", name := "append", desc := "(I)Ljava/lang/AbstractStringBuilder;" } : Jvm.MethodName)) ∈ lw_all := lw_g (lw_at lw_m3 213 rfl) rfl
theorem q799 : (Jvm.Cond.code ({ cls := "java/lang/AbstractStringBuilder", name := "append", desc := "(I)Ljava/lang/AbstractStringBuilder;" } : Jvm.MethodName) prog_13_method_32_code (4 : Nat) (Option.some (Jvm.ClassFile.FieldType.object "java/lang/AbstractStringBuilder"))) ∈ lw_all := lw_g (lw_at lw_m3 214 rfl) rfl
theorem q800 : (Jvm.Cond.methodLink "java/lang/AbstractStringBuilder" (245 : Nat) ({ cls := "java/lang/Integer", name := "stringSize", desc := "(I)I" } : Jvm.MethodName)) ∈ lw_all := lw_g (lw_at lw_m3 215 rfl) rfl
theorem q803 : (Jvm.Cond.methodLink "java/lang/AbstractStringBuilder" (248 : Nat) ({ cls := "java/lang/Integer", name := "getChars", desc := "(II[B)I" } : Jvm.MethodName)) ∈ lw_all := lw_g (lw_at lw_m3 218 rfl) rfl
theorem q810 : (Jvm.Cond.methodLink "java/lang/AbstractStringBuilder" (251 : Nat) ({ cls := "java/lang/StringUTF16", name := "getChars", desc := "(III[B)I" } : Jvm.MethodName)) ∈ lw_all := lw_g (lw_at lw_m3 225 rfl) rfl
theorem q832 : (Jvm.Cond.instanceMethod ({ cls := "java/lang/AbstractStringBuilder", name := "getValue", desc := "()[B" } : Jvm.MethodName)) ∈ lw_all := lw_g (lw_at lw_m4 7 rfl) rfl
theorem q833 : (Jvm.Cond.sameMethod "java/lang/AbstractStringBuilder" "java/lang/AbstractStringBuilder" "getValue" "()[B") ∈ lw_all := lw_g (lw_at lw_m4 8 rfl) rfl
theorem q835 : (Jvm.Cond.code ({ cls := "java/lang/AbstractStringBuilder", name := "getValue", desc := "()[B" } : Jvm.MethodName) prog_13_method_64_code (1 : Nat) (Option.some (Jvm.ClassFile.FieldType.array Jvm.ClassFile.FieldType.byte))) ∈ lw_all := lw_g (lw_at lw_m4 10 rfl) rfl
theorem q911 : (Jvm.Cond.methodLink "java/lang/AbstractStringBuilder" (133 : Nat) ({ cls := "java/lang/StringLatin1", name := "fillNull", desc := "([BII)V" } : Jvm.MethodName)) ∈ lw_all := lw_g (lw_at lw_m4 86 rfl) rfl
theorem q946 : (Jvm.Cond.methodLink "java/lang/AbstractStringBuilder" (137 : Nat) ({ cls := "java/lang/StringUTF16", name := "fillNull", desc := "([BII)V" } : Jvm.MethodName)) ∈ lw_all := lw_g (lw_at lw_m4 121 rfl) rfl
theorem q994 : (Jvm.Cond.instanceMethod ({ cls := "java/lang/AbstractStringBuilder", name := "charAt", desc := "(I)C" } : Jvm.MethodName)) ∈ lw_all := lw_g (lw_at lw_m4 169 rfl) rfl
theorem q995 : (Jvm.Cond.code ({ cls := "java/lang/AbstractStringBuilder", name := "charAt", desc := "(I)C" } : Jvm.MethodName) prog_13_method_14_code (5 : Nat) (Option.some Jvm.ClassFile.FieldType.char)) ∈ lw_all := lw_g (lw_at lw_m4 170 rfl) rfl
theorem q996 : (Jvm.Cond.methodLink "java/lang/AbstractStringBuilder" (138 : Nat) ({ cls := "java/lang/Math", name := "min", desc := "(II)I" } : Jvm.MethodName)) ∈ lw_all := lw_g (lw_at lw_m4 171 rfl) rfl
theorem q997 : (Jvm.Cond.methodLink "java/lang/AbstractStringBuilder" (144 : Nat) ({ cls := "java/lang/String", name := "checkIndex", desc := "(II)V" } : Jvm.MethodName)) ∈ lw_all := lw_g (lw_at lw_m4 172 rfl) rfl
theorem q1001 : (Jvm.Cond.methodLink "java/lang/AbstractStringBuilder" (148 : Nat) ({ cls := "java/lang/StringUTF16", name := "getChar", desc := "([BI)C" } : Jvm.MethodName)) ∈ lw_all := lw_g (lw_at lw_m4 176 rfl) rfl
theorem q1460 : (Jvm.Cond.instanceMethod ({ cls := "java/lang/AbstractStringBuilder", name := "append", desc := "(C)Ljava/lang/AbstractStringBuilder;" } : Jvm.MethodName)) ∈ lw_all := lw_g (lw_at lw_m6 155 rfl) rfl
theorem q1461 : (Jvm.Cond.code ({ cls := "java/lang/AbstractStringBuilder", name := "append", desc := "(C)Ljava/lang/AbstractStringBuilder;" } : Jvm.MethodName) prog_13_method_31_code (2 : Nat) (Option.some (Jvm.ClassFile.FieldType.object "java/lang/AbstractStringBuilder"))) ∈ lw_all := lw_g (lw_at lw_m6 156 rfl) rfl
theorem q1462 : (Jvm.Cond.methodLink "java/lang/AbstractStringBuilder" (191 : Nat) ({ cls := "java/lang/StringLatin1", name := "canEncode", desc := "(C)Z" } : Jvm.MethodName)) ∈ lw_all := lw_g (lw_at lw_m6 157 rfl) rfl
theorem q1465 : (Jvm.Cond.methodLink "java/lang/AbstractStringBuilder" (197 : Nat) ({ cls := "java/lang/StringUTF16", name := "putCharSB", desc := "([BII)V" } : Jvm.MethodName)) ∈ lw_all := lw_g (lw_at lw_m6 160 rfl) rfl
theorem q2136 : (Jvm.Cond.sameMethod "java/lang/AbstractStringBuilder" "java/lang/AbstractStringBuilder" "length" "()I") ∈ lw_all := lw_g (lw_at lw_m9 111 rfl) rfl
theorem q2137 : (Jvm.Cond.sameMethod "java/lang/AbstractStringBuilder" "java/lang/AbstractStringBuilder" "setLength" "(I)V") ∈ lw_all := lw_g (lw_at lw_m9 112 rfl) rfl
theorem q2138 : (Jvm.Cond.sameMethod "java/lang/AbstractStringBuilder" "java/lang/AbstractStringBuilder" "append" "(Ljava/lang/String;)Ljava/lang/AbstractStringBuilder;") ∈ lw_all := lw_g (lw_at lw_m9 113 rfl) rfl
theorem q2139 : (Jvm.Cond.sameMethod "java/lang/AbstractStringBuilder" "java/lang/AbstractStringBuilder" "appendNull" "()Ljava/lang/AbstractStringBuilder;") ∈ lw_all := lw_g (lw_at lw_m9 114 rfl) rfl
theorem q2140 : (Jvm.Cond.sameMethod "java/lang/AbstractStringBuilder" "java/lang/AbstractStringBuilder" "ensureCapacityInternal" "(I)V") ∈ lw_all := lw_g (lw_at lw_m9 115 rfl) rfl
theorem q2141 : (Jvm.Cond.sameMethod "java/lang/AbstractStringBuilder" "java/lang/AbstractStringBuilder" "newCapacity" "(I)I") ∈ lw_all := lw_g (lw_at lw_m9 116 rfl) rfl
theorem q2142 : (Jvm.Cond.sameMethod "java/lang/AbstractStringBuilder" "java/lang/AbstractStringBuilder" "putStringAt" "(ILjava/lang/String;)V") ∈ lw_all := lw_g (lw_at lw_m9 117 rfl) rfl
theorem q2143 : (Jvm.Cond.sameMethod "java/lang/AbstractStringBuilder" "java/lang/AbstractStringBuilder" "inflateIfNeededFor" "(Ljava/lang/String;)V") ∈ lw_all := lw_g (lw_at lw_m9 118 rfl) rfl
theorem q2144 : (Jvm.Cond.sameMethod "java/lang/AbstractStringBuilder" "java/lang/AbstractStringBuilder" "inflate" "()V") ∈ lw_all := lw_g (lw_at lw_m9 119 rfl) rfl
theorem q2145 : (Jvm.Cond.sameMethod "java/lang/AbstractStringBuilder" "java/lang/AbstractStringBuilder" "append" "(I)Ljava/lang/AbstractStringBuilder;") ∈ lw_all := lw_g (lw_at lw_m9 120 rfl) rfl
theorem q2147 : (Jvm.Cond.sameMethod "java/lang/AbstractStringBuilder" "java/lang/AbstractStringBuilder" "charAt" "(I)C") ∈ lw_all := lw_g (lw_at lw_m9 122 rfl) rfl
theorem q2148 : (Jvm.Cond.sameMethod "java/lang/AbstractStringBuilder" "java/lang/AbstractStringBuilder" "append" "(C)Ljava/lang/AbstractStringBuilder;") ∈ lw_all := lw_g (lw_at lw_m9 123 rfl) rfl
/-! java/lang/StringBuilder -/
set_option maxRecDepth 100000
def RJ11 : String := "java/lang/StringBuilder"
def TJ11 : u_T := fun k => match k with
  | 0 => ("java/lang/AbstractStringBuilder", "value", "[B", false)
  | 1 => ("java/lang/AbstractStringBuilder", "coder", "B", false)
  | 2 => ("java/lang/AbstractStringBuilder", "maybeLatin1", "Z", false)
  | _ => ("java/lang/AbstractStringBuilder", "count", "I", false)
def tyJ11 : Nat → FieldType := fun k => match k with
  | 0 => .array .byte
  | 1 => .byte
  | 2 => .boolean
  | _ => .int
abbrev wsJ110 : List Cond := u_ws RJ11 TJ11 4
theorem nmJ11 : ∀ a, a < 4 → ∀ b, b < 4 → a ≠ b → (TJ11 a).2.1 ≠ (TJ11 b).2.1 := by decide +kernel
theorem tyJ11_ok : ∀ k, k < 4 → parseFieldDescriptor (TJ11 k).2.2.1 = some (tyJ11 k) := by decide +kernel
abbrev cJ11_init : ByteArray := prog_31_method_2_code
def yJ11_init : MethodName := ⟨RJ11, "<init>", "(I)V"⟩
def dkwJ11_init_0 : List UInt8 := [42, 27, 183, 0, 1, 177]
abbrev dktJ11_init_0 : List UInt8 := dkwJ11_init_0 ++ []
theorem dksJ11_init_0 : cJ11_init.data.toList.drop 0 = dktJ11_init_0 := by decide +kernel
theorem dJ11_init_0 : decode cJ11_init 0 = .ok (.aload_n 0, 1) := dk_42 (dk_at dksJ11_init_0 0 rfl rfl)
theorem dJ11_init_1 : decode cJ11_init 1 = .ok (.iload_n 1, 1) := dk_27 (dk_at dksJ11_init_0 1 rfl rfl)
theorem dJ11_init_2 : decode cJ11_init 2 = .ok (.invokespecial 1, 3) := dk_183 0 1 (dk_at dksJ11_init_0 2 rfl rfl)
theorem dJ11_init_5 : decode cJ11_init 5 = .ok (.return_, 1) := dk_177 (dk_at dksJ11_init_0 5 rfl rfl)
abbrev cJ11_length : ByteArray := prog_31_method_93_code
def yJ11_length : MethodName := ⟨RJ11, "length", "()I"⟩
theorem dJ11_length_0 : decode cJ11_length 0 = .ok (.aload_n 0, 1) := by decide +kernel
theorem dJ11_length_1 : decode cJ11_length 1 = .ok (.invokespecial 343, 3) := by decide +kernel
theorem dJ11_length_4 : decode cJ11_length 4 = .ok (.ireturn, 1) := by decide +kernel
abbrev cJ11_setLength : ByteArray := prog_31_method_89_code
def yJ11_setLength : MethodName := ⟨RJ11, "setLength", "(I)V"⟩
def dkwJ11_setLength_0 : List UInt8 := [42, 27, 183, 1, 77, 177]
abbrev dktJ11_setLength_0 : List UInt8 := dkwJ11_setLength_0 ++ []
theorem dksJ11_setLength_0 : cJ11_setLength.data.toList.drop 0 = dktJ11_setLength_0 := by decide +kernel
theorem dJ11_setLength_0 : decode cJ11_setLength 0 = .ok (.aload_n 0, 1) := dk_42 (dk_at dksJ11_setLength_0 0 rfl rfl)
theorem dJ11_setLength_1 : decode cJ11_setLength 1 = .ok (.iload_n 1, 1) := dk_27 (dk_at dksJ11_setLength_0 1 rfl rfl)
theorem dJ11_setLength_2 : decode cJ11_setLength 2 = .ok (.invokespecial 333, 3) := dk_183 1 77 (dk_at dksJ11_setLength_0 2 rfl rfl)
theorem dJ11_setLength_5 : decode cJ11_setLength 5 = .ok (.return_, 1) := dk_177 (dk_at dksJ11_setLength_0 5 rfl rfl)
abbrev cJ11_init_2 : ByteArray := prog_31_method_1_code
def yJ11_init_2 : MethodName := ⟨RJ11, "<init>", "()V"⟩
def dkwJ11_init_2_0 : List UInt8 := [42, 16, 16, 183, 0, 1, 177]
abbrev dktJ11_init_2_0 : List UInt8 := dkwJ11_init_2_0 ++ []
theorem dksJ11_init_2_0 : cJ11_init_2.data.toList.drop 0 = dktJ11_init_2_0 := by decide +kernel
theorem dJ11_init_2_0 : decode cJ11_init_2 0 = .ok (.aload_n 0, 1) := dk_42 (dk_at dksJ11_init_2_0 0 rfl rfl)
theorem dJ11_init_2_1 : decode cJ11_init_2 1 = .ok (.bipush 16, 2) := dk_16 16 (dk_at dksJ11_init_2_0 1 rfl rfl)
theorem dJ11_init_2_3 : decode cJ11_init_2 3 = .ok (.invokespecial 1, 3) := dk_183 0 1 (dk_at dksJ11_init_2_0 3 rfl rfl)
theorem dJ11_init_2_6 : decode cJ11_init_2 6 = .ok (.return_, 1) := dk_177 (dk_at dksJ11_init_2_0 6 rfl rfl)
abbrev cJ11_append : ByteArray := prog_31_method_7_code
def yJ11_append : MethodName := ⟨RJ11, "append", "(Ljava/lang/String;)Ljava/lang/StringBuilder;"⟩
def dkwJ11_append_0 : List UInt8 := [42, 43, 183, 0, 29, 87, 42, 176]
abbrev dktJ11_append_0 : List UInt8 := dkwJ11_append_0 ++ []
theorem dksJ11_append_0 : cJ11_append.data.toList.drop 0 = dktJ11_append_0 := by decide +kernel
theorem dJ11_append_0 : decode cJ11_append 0 = .ok (.aload_n 0, 1) := dk_42 (dk_at dksJ11_append_0 0 rfl rfl)
theorem dJ11_append_1 : decode cJ11_append 1 = .ok (.aload_n 1, 1) := dk_43 (dk_at dksJ11_append_0 1 rfl rfl)
theorem dJ11_append_2 : decode cJ11_append 2 = .ok (.invokespecial 29, 3) := dk_183 0 29 (dk_at dksJ11_append_0 2 rfl rfl)
theorem dJ11_append_5 : decode cJ11_append 5 = .ok (.pop, 1) := dk_87 (dk_at dksJ11_append_0 5 rfl rfl)
theorem dJ11_append_6 : decode cJ11_append 6 = .ok (.aload_n 0, 1) := dk_42 (dk_at dksJ11_append_0 6 rfl rfl)
theorem dJ11_append_7 : decode cJ11_append 7 = .ok (.areturn, 1) := dk_176 (dk_at dksJ11_append_0 7 rfl rfl)
abbrev cJ11_append_2 : ByteArray := prog_31_method_15_code
def yJ11_append_2 : MethodName := ⟨RJ11, "append", "(I)Ljava/lang/StringBuilder;"⟩
def dkwJ11_append_2_0 : List UInt8 := [42, 27, 183, 0, 53, 87, 42, 176]
abbrev dktJ11_append_2_0 : List UInt8 := dkwJ11_append_2_0 ++ []
theorem dksJ11_append_2_0 : cJ11_append_2.data.toList.drop 0 = dktJ11_append_2_0 := by decide +kernel
theorem dJ11_append_2_0 : decode cJ11_append_2 0 = .ok (.aload_n 0, 1) := dk_42 (dk_at dksJ11_append_2_0 0 rfl rfl)
theorem dJ11_append_2_1 : decode cJ11_append_2 1 = .ok (.iload_n 1, 1) := dk_27 (dk_at dksJ11_append_2_0 1 rfl rfl)
theorem dJ11_append_2_2 : decode cJ11_append_2 2 = .ok (.invokespecial 53, 3) := dk_183 0 53 (dk_at dksJ11_append_2_0 2 rfl rfl)
theorem dJ11_append_2_5 : decode cJ11_append_2 5 = .ok (.pop, 1) := dk_87 (dk_at dksJ11_append_2_0 5 rfl rfl)
theorem dJ11_append_2_6 : decode cJ11_append_2 6 = .ok (.aload_n 0, 1) := dk_42 (dk_at dksJ11_append_2_0 6 rfl rfl)
theorem dJ11_append_2_7 : decode cJ11_append_2 7 = .ok (.areturn, 1) := dk_176 (dk_at dksJ11_append_2_0 7 rfl rfl)
abbrev cJ11_toString : ByteArray := prog_31_method_42_code
def yJ11_toString : MethodName := ⟨RJ11, "toString", "()Ljava/lang/String;"⟩
def dkwJ11_toString_0 : List UInt8 := [187, 0, 18, 89, 42, 183, 0, 137, 176]
abbrev dktJ11_toString_0 : List UInt8 := dkwJ11_toString_0 ++ []
theorem dksJ11_toString_0 : cJ11_toString.data.toList.drop 0 = dktJ11_toString_0 := by decide +kernel
theorem dJ11_toString_0 : decode cJ11_toString 0 = .ok (.new 18, 3) := dk_187 0 18 (dk_at dksJ11_toString_0 0 rfl rfl)
theorem dJ11_toString_3 : decode cJ11_toString 3 = .ok (.dup, 1) := dk_89 (dk_at dksJ11_toString_0 3 rfl rfl)
theorem dJ11_toString_4 : decode cJ11_toString 4 = .ok (.aload_n 0, 1) := dk_42 (dk_at dksJ11_toString_0 4 rfl rfl)
theorem dJ11_toString_5 : decode cJ11_toString 5 = .ok (.invokespecial 137, 3) := dk_183 0 137 (dk_at dksJ11_toString_0 5 rfl rfl)
theorem dJ11_toString_8 : decode cJ11_toString 8 = .ok (.areturn, 1) := dk_176 (dk_at dksJ11_toString_0 8 rfl rfl)
abbrev cJ11_charAt : ByteArray := prog_31_method_88_code
def yJ11_charAt : MethodName := ⟨RJ11, "charAt", "(I)C"⟩
def dkwJ11_charAt_0 : List UInt8 := [42, 27, 183, 1, 73, 172]
abbrev dktJ11_charAt_0 : List UInt8 := dkwJ11_charAt_0 ++ []
theorem dksJ11_charAt_0 : cJ11_charAt.data.toList.drop 0 = dktJ11_charAt_0 := by decide +kernel
theorem dJ11_charAt_0 : decode cJ11_charAt 0 = .ok (.aload_n 0, 1) := dk_42 (dk_at dksJ11_charAt_0 0 rfl rfl)
theorem dJ11_charAt_1 : decode cJ11_charAt 1 = .ok (.iload_n 1, 1) := dk_27 (dk_at dksJ11_charAt_0 1 rfl rfl)
theorem dJ11_charAt_2 : decode cJ11_charAt 2 = .ok (.invokespecial 329, 3) := dk_183 1 73 (dk_at dksJ11_charAt_0 2 rfl rfl)
theorem dJ11_charAt_5 : decode cJ11_charAt 5 = .ok (.ireturn, 1) := dk_172 (dk_at dksJ11_charAt_0 5 rfl rfl)
abbrev cJ11_append_3 : ByteArray := prog_31_method_14_code
def yJ11_append_3 : MethodName := ⟨RJ11, "append", "(C)Ljava/lang/StringBuilder;"⟩
def dkwJ11_append_3_0 : List UInt8 := [42, 27, 183, 0, 50, 87, 42, 176]
abbrev dktJ11_append_3_0 : List UInt8 := dkwJ11_append_3_0 ++ []
theorem dksJ11_append_3_0 : cJ11_append_3.data.toList.drop 0 = dktJ11_append_3_0 := by decide +kernel
theorem dJ11_append_3_0 : decode cJ11_append_3 0 = .ok (.aload_n 0, 1) := dk_42 (dk_at dksJ11_append_3_0 0 rfl rfl)
theorem dJ11_append_3_1 : decode cJ11_append_3 1 = .ok (.iload_n 1, 1) := dk_27 (dk_at dksJ11_append_3_0 1 rfl rfl)
theorem dJ11_append_3_2 : decode cJ11_append_3 2 = .ok (.invokespecial 50, 3) := dk_183 0 50 (dk_at dksJ11_append_3_0 2 rfl rfl)
theorem dJ11_append_3_5 : decode cJ11_append_3 5 = .ok (.pop, 1) := dk_87 (dk_at dksJ11_append_3_0 5 rfl rfl)
theorem dJ11_append_3_6 : decode cJ11_append_3 6 = .ok (.aload_n 0, 1) := dk_42 (dk_at dksJ11_append_3_0 6 rfl rfl)
theorem dJ11_append_3_7 : decode cJ11_append_3 7 = .ok (.areturn, 1) := dk_176 (dk_at dksJ11_append_3_0 7 rfl rfl)
theorem q126 : (Jvm.Cond.initialized "java/lang/StringBuilder") ∈ lw_all := lw_g (lw_at lw_m1 21 rfl) rfl
theorem q462 : (Jvm.Cond.instantiable "java/lang/StringBuilder" (4 : Nat)) ∈ lw_all := lw_g (lw_at lw_m2 117 rfl) rfl
theorem q464 : (Jvm.Cond.instanceMethod ({ cls := "java/lang/StringBuilder", name := "<init>", desc := "(I)V" } : Jvm.MethodName)) ∈ lw_all := lw_g (lw_at lw_m2 119 rfl) rfl
theorem q465 : (Jvm.Cond.code ({ cls := "java/lang/StringBuilder", name := "<init>", desc := "(I)V" } : Jvm.MethodName) prog_31_method_2_code (2 : Nat) (Option.none : Option Jvm.ClassFile.FieldType)) ∈ lw_all := lw_g (lw_at lw_m2 120 rfl) rfl
theorem q466 : (Jvm.Cond.methodLink "java/lang/StringBuilder" (1 : Nat) ({ cls := "java/lang/AbstractStringBuilder", name := "<init>", desc := "(I)V" } : Jvm.MethodName)) ∈ lw_all := lw_g (lw_at lw_m2 121 rfl) rfl
theorem q484 : (Jvm.Cond.lays "java/lang/StringBuilder" "java/lang/AbstractStringBuilder" "value" "[B") ∈ lw_all := lw_g (lw_at lw_m2 139 rfl) rfl
theorem q486 : (Jvm.Cond.lays "java/lang/StringBuilder" "java/lang/AbstractStringBuilder" "coder" "B") ∈ lw_all := lw_g (lw_at lw_m2 141 rfl) rfl
theorem q488 : (Jvm.Cond.lays "java/lang/StringBuilder" "java/lang/AbstractStringBuilder" "maybeLatin1" "Z") ∈ lw_all := lw_g (lw_at lw_m2 143 rfl) rfl
theorem q490 : (Jvm.Cond.lays "java/lang/StringBuilder" "java/lang/AbstractStringBuilder" "count" "I") ∈ lw_all := lw_g (lw_at lw_m2 145 rfl) rfl
theorem q492 : (Jvm.Cond.superclass "java/lang/StringBuilder" "java/lang/AbstractStringBuilder") ∈ lw_all := lw_g (lw_at lw_m2 147 rfl) rfl
theorem q614 : (Jvm.Cond.selects "java/lang/StringBuilder" ({ cls := "java/lang/Object", name := "getClass", desc := "()Ljava/lang/Class;" } : Jvm.MethodName) ({ cls := "java/lang/Object", name := "getClass", desc := "()Ljava/lang/Class;" } : Jvm.MethodName)) ∈ lw_all := lw_g (lw_at lw_m3 29 rfl) rfl
theorem q665 : (Jvm.Cond.instanceMethod ({ cls := "java/lang/StringBuilder", name := "length", desc := "()I" } : Jvm.MethodName)) ∈ lw_all := lw_g (lw_at lw_m3 80 rfl) rfl
theorem q666 : (Jvm.Cond.selects "java/lang/StringBuilder" ({ cls := "java/lang/StringBuilder", name := "length", desc := "()I" } : Jvm.MethodName) ({ cls := "java/lang/StringBuilder", name := "length", desc := "()I" } : Jvm.MethodName)) ∈ lw_all := lw_g (lw_at lw_m3 81 rfl) rfl
theorem q667 : (Jvm.Cond.code ({ cls := "java/lang/StringBuilder", name := "length", desc := "()I" } : Jvm.MethodName) prog_31_method_93_code (1 : Nat) (Option.some Jvm.ClassFile.FieldType.int)) ∈ lw_all := lw_g (lw_at lw_m3 82 rfl) rfl
theorem q668 : (Jvm.Cond.methodLink "java/lang/StringBuilder" (343 : Nat) ({ cls := "java/lang/AbstractStringBuilder", name := "length", desc := "()I" } : Jvm.MethodName)) ∈ lw_all := lw_g (lw_at lw_m3 83 rfl) rfl
theorem q672 : (Jvm.Cond.instanceMethod ({ cls := "java/lang/StringBuilder", name := "setLength", desc := "(I)V" } : Jvm.MethodName)) ∈ lw_all := lw_g (lw_at lw_m3 87 rfl) rfl
theorem q673 : (Jvm.Cond.selects "java/lang/StringBuilder" ({ cls := "java/lang/StringBuilder", name := "setLength", desc := "(I)V" } : Jvm.MethodName) ({ cls := "java/lang/StringBuilder", name := "setLength", desc := "(I)V" } : Jvm.MethodName)) ∈ lw_all := lw_g (lw_at lw_m3 88 rfl) rfl
theorem q674 : (Jvm.Cond.code ({ cls := "java/lang/StringBuilder", name := "setLength", desc := "(I)V" } : Jvm.MethodName) prog_31_method_89_code (2 : Nat) (Option.none : Option Jvm.ClassFile.FieldType)) ∈ lw_all := lw_g (lw_at lw_m3 89 rfl) rfl
theorem q675 : (Jvm.Cond.methodLink "java/lang/StringBuilder" (333 : Nat) ({ cls := "java/lang/AbstractStringBuilder", name := "setLength", desc := "(I)V" } : Jvm.MethodName)) ∈ lw_all := lw_g (lw_at lw_m3 90 rfl) rfl
theorem q685 : (Jvm.Cond.instanceMethod ({ cls := "java/lang/StringBuilder", name := "<init>", desc := "()V" } : Jvm.MethodName)) ∈ lw_all := lw_g (lw_at lw_m3 100 rfl) rfl
theorem q686 : (Jvm.Cond.code ({ cls := "java/lang/StringBuilder", name := "<init>", desc := "()V" } : Jvm.MethodName) prog_31_method_1_code (1 : Nat) (Option.none : Option Jvm.ClassFile.FieldType)) ∈ lw_all := lw_g (lw_at lw_m3 101 rfl) rfl
theorem q689 : (Jvm.Cond.instanceMethod ({ cls := "java/lang/StringBuilder", name := "append", desc := "(Ljava/lang/String;)Ljava/lang/StringBuilder;" } : Jvm.MethodName)) ∈ lw_all := lw_g (lw_at lw_m3 104 rfl) rfl
theorem q690 : (Jvm.Cond.selects "java/lang/StringBuilder" ({ cls := "java/lang/StringBuilder", name := "append", desc := "(Ljava/lang/String;)Ljava/lang/StringBuilder;" } : Jvm.MethodName) ({ cls := "java/lang/StringBuilder", name := "append", desc := "(Ljava/lang/String;)Ljava/lang/StringBuilder;" } : Jvm.MethodName)) ∈ lw_all := lw_g (lw_at lw_m3 105 rfl) rfl
theorem q691 : (Jvm.Cond.code ({ cls := "java/lang/StringBuilder", name := "append", desc := "(Ljava/lang/String;)Ljava/lang/StringBuilder;" } : Jvm.MethodName) prog_31_method_7_code (2 : Nat) (Option.some (Jvm.ClassFile.FieldType.object "java/lang/StringBuilder"))) ∈ lw_all := lw_g (lw_at lw_m3 106 rfl) rfl
theorem q692 : (Jvm.Cond.methodLink "java/lang/StringBuilder" (29 : Nat) ({ cls := "java/lang/AbstractStringBuilder", name := "append", desc := "(Ljava/lang/String;)Ljava/lang/AbstractStringBuilder;" } : Jvm.MethodName)) ∈ lw_all := lw_g (lw_at lw_m3 107 rfl) rfl
theorem q722 : (Jvm.Cond.selects "java/lang/StringBuilder" ({ cls := "java/lang/AbstractStringBuilder", name := "isLatin1", desc := "()Z" } : Jvm.MethodName) ({ cls := "java/lang/AbstractStringBuilder", name := "isLatin1", desc := "()Z" } : Jvm.MethodName)) ∈ lw_all := lw_g (lw_at lw_m3 137 rfl) rfl
theorem q794 : (Jvm.Cond.instanceMethod ({ cls := "java/lang/StringBuilder", name := "append", desc := "(I)Ljava/lang/StringBuilder;" } : Jvm.MethodName)) ∈ lw_all := lw_g (lw_at lw_m3 209 rfl) rfl
theorem q795 : (Jvm.Cond.selects "java/lang/StringBuilder" ({ cls := "java/lang/StringBuilder", name := "append", desc := "(I)Ljava/lang/StringBuilder;" } : Jvm.MethodName) ({ cls := "java/lang/StringBuilder", name := "append", desc := "(I)Ljava/lang/StringBuilder;" } : Jvm.MethodName)) ∈ lw_all := lw_g (lw_at lw_m3 210 rfl) rfl
theorem q796 : (Jvm.Cond.code ({ cls := "java/lang/StringBuilder", name := "append", desc := "(I)Ljava/lang/StringBuilder;" } : Jvm.MethodName) prog_31_method_15_code (2 : Nat) (Option.some (Jvm.ClassFile.FieldType.object "java/lang/StringBuilder"))) ∈ lw_all := lw_g (lw_at lw_m3 211 rfl) rfl
theorem q797 : (Jvm.Cond.methodLink "java/lang/StringBuilder" (53 : Nat) ({ cls := "java/lang/AbstractStringBuilder", name := "append", desc := "(I)Ljava/lang/AbstractStringBuilder;" } : Jvm.MethodName)) ∈ lw_all := lw_g (lw_at lw_m3 212 rfl) rfl
theorem q819 : (Jvm.Cond.instanceMethod ({ cls := "java/lang/StringBuilder", name := "toString", desc := "()Ljava/lang/String;" } : Jvm.MethodName)) ∈ lw_all := lw_g (lw_at lw_m3 234 rfl) rfl
theorem q820 : (Jvm.Cond.selects "java/lang/StringBuilder" ({ cls := "java/lang/StringBuilder", name := "toString", desc := "()Ljava/lang/String;" } : Jvm.MethodName) ({ cls := "java/lang/StringBuilder", name := "toString", desc := "()Ljava/lang/String;" } : Jvm.MethodName)) ∈ lw_all := lw_g (lw_at lw_m3 235 rfl) rfl
theorem q821 : (Jvm.Cond.code ({ cls := "java/lang/StringBuilder", name := "toString", desc := "()Ljava/lang/String;" } : Jvm.MethodName) prog_31_method_42_code (1 : Nat) (Option.some (Jvm.ClassFile.FieldType.object "java/lang/String"))) ∈ lw_all := lw_g (lw_at lw_m3 236 rfl) rfl
theorem q822 : (Jvm.Cond.classLink "java/lang/StringBuilder" (18 : Nat) "java/lang/String") ∈ lw_all := lw_g (lw_at lw_m3 237 rfl) rfl
theorem q824 : (Jvm.Cond.methodLink "java/lang/StringBuilder" (137 : Nat) ({ cls := "java/lang/String", name := "<init>", desc := "(Ljava/lang/StringBuilder;)V" } : Jvm.MethodName)) ∈ lw_all := lw_g (lw_at lw_m3 239 rfl) rfl
theorem q834 : (Jvm.Cond.selects "java/lang/StringBuilder" ({ cls := "java/lang/AbstractStringBuilder", name := "getValue", desc := "()[B" } : Jvm.MethodName) ({ cls := "java/lang/AbstractStringBuilder", name := "getValue", desc := "()[B" } : Jvm.MethodName)) ∈ lw_all := lw_g (lw_at lw_m4 9 rfl) rfl
theorem q990 : (Jvm.Cond.instanceMethod ({ cls := "java/lang/StringBuilder", name := "charAt", desc := "(I)C" } : Jvm.MethodName)) ∈ lw_all := lw_g (lw_at lw_m4 165 rfl) rfl
theorem q991 : (Jvm.Cond.selects "java/lang/StringBuilder" ({ cls := "java/lang/StringBuilder", name := "charAt", desc := "(I)C" } : Jvm.MethodName) ({ cls := "java/lang/StringBuilder", name := "charAt", desc := "(I)C" } : Jvm.MethodName)) ∈ lw_all := lw_g (lw_at lw_m4 166 rfl) rfl
theorem q992 : (Jvm.Cond.code ({ cls := "java/lang/StringBuilder", name := "charAt", desc := "(I)C" } : Jvm.MethodName) prog_31_method_88_code (2 : Nat) (Option.some Jvm.ClassFile.FieldType.char)) ∈ lw_all := lw_g (lw_at lw_m4 167 rfl) rfl
theorem q993 : (Jvm.Cond.methodLink "java/lang/StringBuilder" (329 : Nat) ({ cls := "java/lang/AbstractStringBuilder", name := "charAt", desc := "(I)C" } : Jvm.MethodName)) ∈ lw_all := lw_g (lw_at lw_m4 168 rfl) rfl
theorem q1456 : (Jvm.Cond.instanceMethod ({ cls := "java/lang/StringBuilder", name := "append", desc := "(C)Ljava/lang/StringBuilder;" } : Jvm.MethodName)) ∈ lw_all := lw_g (lw_at lw_m6 151 rfl) rfl
theorem q1457 : (Jvm.Cond.selects "java/lang/StringBuilder" ({ cls := "java/lang/StringBuilder", name := "append", desc := "(C)Ljava/lang/StringBuilder;" } : Jvm.MethodName) ({ cls := "java/lang/StringBuilder", name := "append", desc := "(C)Ljava/lang/StringBuilder;" } : Jvm.MethodName)) ∈ lw_all := lw_g (lw_at lw_m6 152 rfl) rfl
theorem q1458 : (Jvm.Cond.code ({ cls := "java/lang/StringBuilder", name := "append", desc := "(C)Ljava/lang/StringBuilder;" } : Jvm.MethodName) prog_31_method_14_code (2 : Nat) (Option.some (Jvm.ClassFile.FieldType.object "java/lang/StringBuilder"))) ∈ lw_all := lw_g (lw_at lw_m6 153 rfl) rfl
theorem q1459 : (Jvm.Cond.methodLink "java/lang/StringBuilder" (50 : Nat) ({ cls := "java/lang/AbstractStringBuilder", name := "append", desc := "(C)Ljava/lang/AbstractStringBuilder;" } : Jvm.MethodName)) ∈ lw_all := lw_g (lw_at lw_m6 154 rfl) rfl
theorem q2146 : (Jvm.Cond.selects "java/lang/StringBuilder" ({ cls := "java/lang/AbstractStringBuilder", name := "length", desc := "()I" } : Jvm.MethodName) ({ cls := "java/lang/StringBuilder", name := "length", desc := "()I" } : Jvm.MethodName)) ∈ lw_all := lw_g (lw_at lw_m9 121 rfl) rfl
theorem q2164 : (Jvm.Cond.castable "java/lang/StringBuilder" "java/lang/Object") ∈ lw_tbl := lw_at lw_m9 139 rfl
theorem in_J11 : ∀ w ∈ wsJ110, w ∈ lw_all := lw_in wsJ110 [484, 486, 488, 490] (by decide +kernel) (by decide +kernel)
/-! java/lang/IndexOutOfBoundsException -/
set_option maxRecDepth 100000
def RJ14 : String := "java/lang/IndexOutOfBoundsException"
def TJ14 : u_T := fun k => match k with
  | 0 => ("java/lang/Throwable", "cause", "Ljava/lang/Throwable;", false)
  | 1 => ("java/lang/Throwable", "stackTrace", "[Ljava/lang/StackTraceElement;", false)
  | 2 => ("java/lang/Throwable", "suppressedExceptions", "Ljava/util/List;", false)
  | 3 => ("java/lang/Throwable", "detailMessage", "Ljava/lang/String;", false)
  | 4 => ("java/lang/Throwable", "backtrace", "Ljava/lang/Object;", false)
  | _ => ("java/lang/Throwable", "depth", "I", false)
def tyJ14 : Nat → FieldType := fun k => match k with
  | 0 => .object "java/lang/Throwable"
  | 1 => .array (.object "java/lang/StackTraceElement")
  | 2 => .object "java/util/List"
  | 3 => .object "java/lang/String"
  | 4 => .object "java/lang/Object"
  | _ => .int
abbrev wsJ140 : List Cond := u_ws RJ14 TJ14 6
theorem nmJ14 : ∀ a, a < 6 → ∀ b, b < 6 → a ≠ b → (TJ14 a).2.1 ≠ (TJ14 b).2.1 := by decide +kernel
theorem tyJ14_ok : ∀ k, k < 6 → parseFieldDescriptor (TJ14 k).2.2.1 = some (tyJ14 k) := by decide +kernel
abbrev cJ14_init : ByteArray := prog_23_method_2_code
def yJ14_init : MethodName := ⟨RJ14, "<init>", "(Ljava/lang/String;)V"⟩
def dkwJ14_init_0 : List UInt8 := [42, 43, 183, 0, 7, 177]
abbrev dktJ14_init_0 : List UInt8 := dkwJ14_init_0 ++ []
theorem dksJ14_init_0 : cJ14_init.data.toList.drop 0 = dktJ14_init_0 := by decide +kernel
theorem dJ14_init_0 : decode cJ14_init 0 = .ok (.aload_n 0, 1) := dk_42 (dk_at dksJ14_init_0 0 rfl rfl)
theorem dJ14_init_1 : decode cJ14_init 1 = .ok (.aload_n 1, 1) := dk_43 (dk_at dksJ14_init_0 1 rfl rfl)
theorem dJ14_init_2 : decode cJ14_init 2 = .ok (.invokespecial 7, 3) := dk_183 0 7 (dk_at dksJ14_init_0 2 rfl rfl)
theorem dJ14_init_5 : decode cJ14_init 5 = .ok (.return_, 1) := dk_177 (dk_at dksJ14_init_0 5 rfl rfl)
abbrev cJ14_init_2 : ByteArray := prog_23_method_1_code
def yJ14_init_2 : MethodName := ⟨RJ14, "<init>", "()V"⟩
theorem dJ14_init_2_0 : decode cJ14_init_2 0 = .ok (.aload_n 0, 1) := by decide +kernel
theorem dJ14_init_2_1 : decode cJ14_init_2 1 = .ok (.invokespecial 1, 3) := by decide +kernel
theorem dJ14_init_2_4 : decode cJ14_init_2 4 = .ok (.return_, 1) := by decide +kernel
theorem q130 : (Jvm.Cond.initialized "java/lang/IndexOutOfBoundsException") ∈ lw_all := lw_g (lw_at lw_m1 25 rfl) rfl
theorem q287 : (Jvm.Cond.selects "java/lang/IndexOutOfBoundsException" ({ cls := "java/lang/Throwable", name := "fillInStackTrace", desc := "()Ljava/lang/Throwable;" } : Jvm.MethodName) ({ cls := "java/lang/Throwable", name := "fillInStackTrace", desc := "()Ljava/lang/Throwable;" } : Jvm.MethodName)) ∈ lw_all := lw_g (lw_at lw_m1 182 rfl) rfl
theorem q611 : (Jvm.Cond.selects "java/lang/IndexOutOfBoundsException" ({ cls := "java/lang/Object", name := "getClass", desc := "()Ljava/lang/Class;" } : Jvm.MethodName) ({ cls := "java/lang/Object", name := "getClass", desc := "()Ljava/lang/Class;" } : Jvm.MethodName)) ∈ lw_all := lw_g (lw_at lw_m3 26 rfl) rfl
theorem q901 : (Jvm.Cond.instanceMethod ({ cls := "java/lang/IndexOutOfBoundsException", name := "<init>", desc := "(Ljava/lang/String;)V" } : Jvm.MethodName)) ∈ lw_all := lw_g (lw_at lw_m4 76 rfl) rfl
theorem q902 : (Jvm.Cond.code ({ cls := "java/lang/IndexOutOfBoundsException", name := "<init>", desc := "(Ljava/lang/String;)V" } : Jvm.MethodName) prog_23_method_2_code (2 : Nat) (Option.none : Option Jvm.ClassFile.FieldType)) ∈ lw_all := lw_g (lw_at lw_m4 77 rfl) rfl
theorem q903 : (Jvm.Cond.methodLink "java/lang/IndexOutOfBoundsException" (7 : Nat) ({ cls := "java/lang/RuntimeException", name := "<init>", desc := "(Ljava/lang/String;)V" } : Jvm.MethodName)) ∈ lw_all := lw_g (lw_at lw_m4 78 rfl) rfl
theorem q926 : (Jvm.Cond.declares ({ cls := "java/lang/IndexOutOfBoundsException", name := "<init>", desc := "()V" } : Jvm.MethodName)) ∈ lw_tbl := lw_at lw_m4 101 rfl
theorem q927 : (Jvm.Cond.declares ({ cls := "java/lang/IndexOutOfBoundsException", name := "<init>", desc := "(Ljava/lang/String;)V" } : Jvm.MethodName)) ∈ lw_tbl := lw_at lw_m4 102 rfl
theorem q1111 : (Jvm.Cond.instantiable "java/lang/IndexOutOfBoundsException" (6 : Nat)) ∈ lw_all := lw_g (lw_at lw_m5 46 rfl) rfl
theorem q1112 : (Jvm.Cond.castable "java/lang/IndexOutOfBoundsException" "java/lang/IndexOutOfBoundsException") ∈ lw_tbl := lw_at lw_m5 47 rfl
theorem q1113 : (Jvm.Cond.selects "java/lang/IndexOutOfBoundsException" ({ cls := "java/lang/Throwable", name := "fillInStackTrace", desc := "(I)Ljava/lang/Throwable;" } : Jvm.MethodName) ({ cls := "java/lang/Throwable", name := "fillInStackTrace", desc := "(I)Ljava/lang/Throwable;" } : Jvm.MethodName)) ∈ lw_all := lw_g (lw_at lw_m5 48 rfl) rfl
theorem q1114 : (Jvm.Cond.lays "java/lang/IndexOutOfBoundsException" "java/lang/Throwable" "cause" "Ljava/lang/Throwable;") ∈ lw_all := lw_g (lw_at lw_m5 49 rfl) rfl
theorem q1115 : (Jvm.Cond.lays "java/lang/IndexOutOfBoundsException" "java/lang/Throwable" "stackTrace" "[Ljava/lang/StackTraceElement;") ∈ lw_all := lw_g (lw_at lw_m5 50 rfl) rfl
theorem q1116 : (Jvm.Cond.lays "java/lang/IndexOutOfBoundsException" "java/lang/Throwable" "suppressedExceptions" "Ljava/util/List;") ∈ lw_all := lw_g (lw_at lw_m5 51 rfl) rfl
theorem q1117 : (Jvm.Cond.lays "java/lang/IndexOutOfBoundsException" "java/lang/Throwable" "detailMessage" "Ljava/lang/String;") ∈ lw_all := lw_g (lw_at lw_m5 52 rfl) rfl
theorem q1118 : (Jvm.Cond.lays "java/lang/IndexOutOfBoundsException" "java/lang/Throwable" "backtrace" "Ljava/lang/Object;") ∈ lw_all := lw_g (lw_at lw_m5 53 rfl) rfl
theorem q1126 : (Jvm.Cond.lays "java/lang/IndexOutOfBoundsException" "java/lang/Throwable" "depth" "I") ∈ lw_all := lw_g (lw_at lw_m5 61 rfl) rfl
theorem q1127 : (Jvm.Cond.superclass "java/lang/IndexOutOfBoundsException" "java/lang/RuntimeException") ∈ lw_all := lw_g (lw_at lw_m5 62 rfl) rfl
theorem q1369 : (Jvm.Cond.instanceMethod ({ cls := "java/lang/IndexOutOfBoundsException", name := "<init>", desc := "()V" } : Jvm.MethodName)) ∈ lw_all := lw_g (lw_at lw_m6 64 rfl) rfl
theorem q1370 : (Jvm.Cond.code ({ cls := "java/lang/IndexOutOfBoundsException", name := "<init>", desc := "()V" } : Jvm.MethodName) prog_23_method_1_code (1 : Nat) (Option.none : Option Jvm.ClassFile.FieldType)) ∈ lw_all := lw_g (lw_at lw_m6 65 rfl) rfl
theorem q1371 : (Jvm.Cond.methodLink "java/lang/IndexOutOfBoundsException" (1 : Nat) ({ cls := "java/lang/RuntimeException", name := "<init>", desc := "()V" } : Jvm.MethodName)) ∈ lw_all := lw_g (lw_at lw_m6 66 rfl) rfl
theorem q2167 : (Jvm.Cond.castable "java/lang/IndexOutOfBoundsException" "java/lang/Object") ∈ lw_tbl := lw_at lw_m9 142 rfl
theorem in_J14 : ∀ w ∈ wsJ140, w ∈ lw_all := lw_in wsJ140 [1114, 1115, 1116, 1117, 1118, 1126] (by decide +kernel) (by decide +kernel)
/-! java/lang/IllegalArgumentException -/
set_option maxRecDepth 100000
def RJ16 : String := "java/lang/IllegalArgumentException"
def TJ16 : u_T := fun k => match k with
  | 0 => ("java/lang/Throwable", "cause", "Ljava/lang/Throwable;", false)
  | 1 => ("java/lang/Throwable", "stackTrace", "[Ljava/lang/StackTraceElement;", false)
  | 2 => ("java/lang/Throwable", "suppressedExceptions", "Ljava/util/List;", false)
  | 3 => ("java/lang/Throwable", "detailMessage", "Ljava/lang/String;", false)
  | 4 => ("java/lang/Throwable", "backtrace", "Ljava/lang/Object;", false)
  | _ => ("java/lang/Throwable", "depth", "I", false)
def tyJ16 : Nat → FieldType := fun k => match k with
  | 0 => .object "java/lang/Throwable"
  | 1 => .array (.object "java/lang/StackTraceElement")
  | 2 => .object "java/util/List"
  | 3 => .object "java/lang/String"
  | 4 => .object "java/lang/Object"
  | _ => .int
abbrev wsJ160 : List Cond := u_ws RJ16 TJ16 6
theorem nmJ16 : ∀ a, a < 6 → ∀ b, b < 6 → a ≠ b → (TJ16 a).2.1 ≠ (TJ16 b).2.1 := by decide +kernel
theorem tyJ16_ok : ∀ k, k < 6 → parseFieldDescriptor (TJ16 k).2.2.1 = some (tyJ16 k) := by decide +kernel
abbrev cJ16_init : ByteArray := prog_21_method_2_code
def yJ16_init : MethodName := ⟨RJ16, "<init>", "(Ljava/lang/String;)V"⟩
def dkwJ16_init_0 : List UInt8 := [42, 43, 183, 0, 7, 177]
abbrev dktJ16_init_0 : List UInt8 := dkwJ16_init_0 ++ []
theorem dksJ16_init_0 : cJ16_init.data.toList.drop 0 = dktJ16_init_0 := by decide +kernel
theorem dJ16_init_0 : decode cJ16_init 0 = .ok (.aload_n 0, 1) := dk_42 (dk_at dksJ16_init_0 0 rfl rfl)
theorem dJ16_init_1 : decode cJ16_init 1 = .ok (.aload_n 1, 1) := dk_43 (dk_at dksJ16_init_0 1 rfl rfl)
theorem dJ16_init_2 : decode cJ16_init 2 = .ok (.invokespecial 7, 3) := dk_183 0 7 (dk_at dksJ16_init_0 2 rfl rfl)
theorem dJ16_init_5 : decode cJ16_init 5 = .ok (.return_, 1) := dk_177 (dk_at dksJ16_init_0 5 rfl rfl)
abbrev cJ16_init_2 : ByteArray := prog_21_method_1_code
def yJ16_init_2 : MethodName := ⟨RJ16, "<init>", "()V"⟩
theorem dJ16_init_2_0 : decode cJ16_init_2 0 = .ok (.aload_n 0, 1) := by decide +kernel
theorem dJ16_init_2_1 : decode cJ16_init_2 1 = .ok (.invokespecial 1, 3) := by decide +kernel
theorem dJ16_init_2_4 : decode cJ16_init_2 4 = .ok (.return_, 1) := by decide +kernel
theorem q132 : (Jvm.Cond.initialized "java/lang/IllegalArgumentException") ∈ lw_all := lw_g (lw_at lw_m1 27 rfl) rfl
theorem q285 : (Jvm.Cond.selects "java/lang/IllegalArgumentException" ({ cls := "java/lang/Throwable", name := "fillInStackTrace", desc := "()Ljava/lang/Throwable;" } : Jvm.MethodName) ({ cls := "java/lang/Throwable", name := "fillInStackTrace", desc := "()Ljava/lang/Throwable;" } : Jvm.MethodName)) ∈ lw_all := lw_g (lw_at lw_m1 180 rfl) rfl
theorem q609 : (Jvm.Cond.selects "java/lang/IllegalArgumentException" ({ cls := "java/lang/Object", name := "getClass", desc := "()Ljava/lang/Class;" } : Jvm.MethodName) ({ cls := "java/lang/Object", name := "getClass", desc := "()Ljava/lang/Class;" } : Jvm.MethodName)) ∈ lw_all := lw_g (lw_at lw_m3 24 rfl) rfl
theorem q848 : (Jvm.Cond.instantiable "java/lang/IllegalArgumentException" (6 : Nat)) ∈ lw_all := lw_g (lw_at lw_m4 23 rfl) rfl
theorem q849 : (Jvm.Cond.castable "java/lang/IllegalArgumentException" "java/lang/IllegalArgumentException") ∈ lw_tbl := lw_at lw_m4 24 rfl
theorem q850 : (Jvm.Cond.selects "java/lang/IllegalArgumentException" ({ cls := "java/lang/Throwable", name := "fillInStackTrace", desc := "(I)Ljava/lang/Throwable;" } : Jvm.MethodName) ({ cls := "java/lang/Throwable", name := "fillInStackTrace", desc := "(I)Ljava/lang/Throwable;" } : Jvm.MethodName)) ∈ lw_all := lw_g (lw_at lw_m4 25 rfl) rfl
theorem q851 : (Jvm.Cond.lays "java/lang/IllegalArgumentException" "java/lang/Throwable" "cause" "Ljava/lang/Throwable;") ∈ lw_all := lw_g (lw_at lw_m4 26 rfl) rfl
theorem q852 : (Jvm.Cond.lays "java/lang/IllegalArgumentException" "java/lang/Throwable" "stackTrace" "[Ljava/lang/StackTraceElement;") ∈ lw_all := lw_g (lw_at lw_m4 27 rfl) rfl
theorem q853 : (Jvm.Cond.lays "java/lang/IllegalArgumentException" "java/lang/Throwable" "suppressedExceptions" "Ljava/util/List;") ∈ lw_all := lw_g (lw_at lw_m4 28 rfl) rfl
theorem q854 : (Jvm.Cond.lays "java/lang/IllegalArgumentException" "java/lang/Throwable" "detailMessage" "Ljava/lang/String;") ∈ lw_all := lw_g (lw_at lw_m4 29 rfl) rfl
theorem q855 : (Jvm.Cond.lays "java/lang/IllegalArgumentException" "java/lang/Throwable" "backtrace" "Ljava/lang/Object;") ∈ lw_all := lw_g (lw_at lw_m4 30 rfl) rfl
theorem q863 : (Jvm.Cond.instanceMethod ({ cls := "java/lang/IllegalArgumentException", name := "<init>", desc := "(Ljava/lang/String;)V" } : Jvm.MethodName)) ∈ lw_all := lw_g (lw_at lw_m4 38 rfl) rfl
theorem q864 : (Jvm.Cond.code ({ cls := "java/lang/IllegalArgumentException", name := "<init>", desc := "(Ljava/lang/String;)V" } : Jvm.MethodName) prog_21_method_2_code (2 : Nat) (Option.none : Option Jvm.ClassFile.FieldType)) ∈ lw_all := lw_g (lw_at lw_m4 39 rfl) rfl
theorem q865 : (Jvm.Cond.methodLink "java/lang/IllegalArgumentException" (7 : Nat) ({ cls := "java/lang/RuntimeException", name := "<init>", desc := "(Ljava/lang/String;)V" } : Jvm.MethodName)) ∈ lw_all := lw_g (lw_at lw_m4 40 rfl) rfl
theorem q874 : (Jvm.Cond.lays "java/lang/IllegalArgumentException" "java/lang/Throwable" "depth" "I") ∈ lw_all := lw_g (lw_at lw_m4 49 rfl) rfl
theorem q875 : (Jvm.Cond.superclass "java/lang/IllegalArgumentException" "java/lang/RuntimeException") ∈ lw_all := lw_g (lw_at lw_m4 50 rfl) rfl
theorem q1380 : (Jvm.Cond.instanceMethod ({ cls := "java/lang/IllegalArgumentException", name := "<init>", desc := "()V" } : Jvm.MethodName)) ∈ lw_all := lw_g (lw_at lw_m6 75 rfl) rfl
theorem q1381 : (Jvm.Cond.code ({ cls := "java/lang/IllegalArgumentException", name := "<init>", desc := "()V" } : Jvm.MethodName) prog_21_method_1_code (1 : Nat) (Option.none : Option Jvm.ClassFile.FieldType)) ∈ lw_all := lw_g (lw_at lw_m6 76 rfl) rfl
theorem q1382 : (Jvm.Cond.methodLink "java/lang/IllegalArgumentException" (1 : Nat) ({ cls := "java/lang/RuntimeException", name := "<init>", desc := "()V" } : Jvm.MethodName)) ∈ lw_all := lw_g (lw_at lw_m6 77 rfl) rfl
theorem q2168 : (Jvm.Cond.castable "java/lang/IllegalArgumentException" "java/lang/Object") ∈ lw_tbl := lw_at lw_m9 143 rfl
theorem in_J16 : ∀ w ∈ wsJ160, w ∈ lw_all := lw_in wsJ160 [851, 852, 853, 854, 855, 874] (by decide +kernel) (by decide +kernel)
/-! java/lang/Math -/
set_option maxRecDepth 100000
def RJ20 : String := "java/lang/Math"
abbrev cJ20_max : ByteArray := prog_27_method_65_code
def yJ20_max : MethodName := ⟨RJ20, "max", "(II)I"⟩
def dkwJ20_max_0 : List UInt8 := [26, 27, 161, 0, 7, 26, 167, 0, 4, 27, 172]
abbrev dktJ20_max_0 : List UInt8 := dkwJ20_max_0 ++ []
theorem dksJ20_max_0 : cJ20_max.data.toList.drop 0 = dktJ20_max_0 := by decide +kernel
theorem dJ20_max_0 : decode cJ20_max 0 = .ok (.iload_n 0, 1) := dk_26 (dk_at dksJ20_max_0 0 rfl rfl)
theorem dJ20_max_1 : decode cJ20_max 1 = .ok (.iload_n 1, 1) := dk_27 (dk_at dksJ20_max_0 1 rfl rfl)
theorem dJ20_max_2 : decode cJ20_max 2 = .ok (.if_icmp .lt 7, 3) := dk_161 0 7 (dk_at dksJ20_max_0 2 rfl rfl)
theorem dJ20_max_5 : decode cJ20_max 5 = .ok (.iload_n 0, 1) := dk_26 (dk_at dksJ20_max_0 5 rfl rfl)
theorem dJ20_max_6 : decode cJ20_max 6 = .ok (.goto 4, 3) := dk_167 0 4 (dk_at dksJ20_max_0 6 rfl rfl)
theorem dJ20_max_9 : decode cJ20_max 9 = .ok (.iload_n 1, 1) := dk_27 (dk_at dksJ20_max_0 9 rfl rfl)
theorem dJ20_max_10 : decode cJ20_max 10 = .ok (.ireturn, 1) := dk_172 (dk_at dksJ20_max_0 10 rfl rfl)
abbrev cJ20_min : ByteArray := prog_27_method_69_code
def yJ20_min : MethodName := ⟨RJ20, "min", "(II)I"⟩
def dkwJ20_min_0 : List UInt8 := [26, 27, 163, 0, 7, 26, 167, 0, 4, 27, 172]
abbrev dktJ20_min_0 : List UInt8 := dkwJ20_min_0 ++ []
theorem dksJ20_min_0 : cJ20_min.data.toList.drop 0 = dktJ20_min_0 := by decide +kernel
theorem dJ20_min_0 : decode cJ20_min 0 = .ok (.iload_n 0, 1) := dk_26 (dk_at dksJ20_min_0 0 rfl rfl)
theorem dJ20_min_1 : decode cJ20_min 1 = .ok (.iload_n 1, 1) := dk_27 (dk_at dksJ20_min_0 1 rfl rfl)
theorem dJ20_min_2 : decode cJ20_min 2 = .ok (.if_icmp .gt 7, 3) := dk_163 0 7 (dk_at dksJ20_min_0 2 rfl rfl)
theorem dJ20_min_5 : decode cJ20_min 5 = .ok (.iload_n 0, 1) := dk_26 (dk_at dksJ20_min_0 5 rfl rfl)
theorem dJ20_min_6 : decode cJ20_min 6 = .ok (.goto 4, 3) := dk_167 0 4 (dk_at dksJ20_min_0 6 rfl rfl)
theorem dJ20_min_9 : decode cJ20_min 9 = .ok (.iload_n 1, 1) := dk_27 (dk_at dksJ20_min_0 9 rfl rfl)
theorem dJ20_min_10 : decode cJ20_min 10 = .ok (.ireturn, 1) := dk_172 (dk_at dksJ20_min_0 10 rfl rfl)
abbrev cJ20_abs : ByteArray := prog_27_method_59_code
def yJ20_abs : MethodName := ⟨RJ20, "abs", "(I)I"⟩
def dkwJ20_abs_0 : List UInt8 := [26, 156, 0, 8, 26, 116, 167, 0, 4, 26, 172]
abbrev dktJ20_abs_0 : List UInt8 := dkwJ20_abs_0 ++ []
theorem dksJ20_abs_0 : cJ20_abs.data.toList.drop 0 = dktJ20_abs_0 := by decide +kernel
theorem dJ20_abs_0 : decode cJ20_abs 0 = .ok (.iload_n 0, 1) := dk_26 (dk_at dksJ20_abs_0 0 rfl rfl)
theorem dJ20_abs_1 : decode cJ20_abs 1 = .ok (.ifCond .ge 8, 3) := dk_156 0 8 (dk_at dksJ20_abs_0 1 rfl rfl)
theorem dJ20_abs_4 : decode cJ20_abs 4 = .ok (.iload_n 0, 1) := dk_26 (dk_at dksJ20_abs_0 4 rfl rfl)
theorem dJ20_abs_5 : decode cJ20_abs 5 = .ok (.ineg, 1) := dk_116 (dk_at dksJ20_abs_0 5 rfl rfl)
theorem dJ20_abs_6 : decode cJ20_abs 6 = .ok (.goto 4, 3) := dk_167 0 4 (dk_at dksJ20_abs_0 6 rfl rfl)
theorem dJ20_abs_9 : decode cJ20_abs 9 = .ok (.iload_n 0, 1) := dk_26 (dk_at dksJ20_abs_0 9 rfl rfl)
theorem dJ20_abs_10 : decode cJ20_abs 10 = .ok (.ireturn, 1) := dk_172 (dk_at dksJ20_abs_0 10 rfl rfl)
theorem q137 : (Jvm.Cond.initialized "java/lang/Math") ∈ lw_all := lw_g (lw_at lw_m1 32 rfl) rfl
theorem q586 : (Jvm.Cond.static ({ cls := "java/lang/Math", name := "max", desc := "(II)I" } : Jvm.MethodName)) ∈ lw_all := lw_g (lw_at lw_m3 1 rfl) rfl
theorem q587 : (Jvm.Cond.code ({ cls := "java/lang/Math", name := "max", desc := "(II)I" } : Jvm.MethodName) prog_27_method_65_code (2 : Nat) (Option.some Jvm.ClassFile.FieldType.int)) ∈ lw_all := lw_g (lw_at lw_m3 2 rfl) rfl
theorem q627 : (Jvm.Cond.static ({ cls := "java/lang/Math", name := "min", desc := "(II)I" } : Jvm.MethodName)) ∈ lw_all := lw_g (lw_at lw_m3 42 rfl) rfl
theorem q628 : (Jvm.Cond.code ({ cls := "java/lang/Math", name := "min", desc := "(II)I" } : Jvm.MethodName) prog_27_method_69_code (2 : Nat) (Option.some Jvm.ClassFile.FieldType.int)) ∈ lw_all := lw_g (lw_at lw_m3 43 rfl) rfl
theorem q1169 : (Jvm.Cond.static ({ cls := "java/lang/Math", name := "abs", desc := "(I)I" } : Jvm.MethodName)) ∈ lw_all := lw_g (lw_at lw_m5 104 rfl) rfl
theorem q1170 : (Jvm.Cond.code ({ cls := "java/lang/Math", name := "abs", desc := "(I)I" } : Jvm.MethodName) prog_27_method_59_code (1 : Nat) (Option.some Jvm.ClassFile.FieldType.int)) ∈ lw_all := lw_g (lw_at lw_m5 105 rfl) rfl
/-! java/util/Arrays -/
set_option maxRecDepth 100000
def RJ21 : String := "java/util/Arrays"
abbrev cJ21_copyOf : ByteArray := prog_42_method_119_code
def yJ21_copyOf : MethodName := ⟨RJ21, "copyOf", "([Ljava/lang/Object;I)[Ljava/lang/Object;"⟩
def dkwJ21_copyOf_0 : List UInt8 := [42, 27, 42, 182, 0, 86, 184, 1, 44, 176]
abbrev dktJ21_copyOf_0 : List UInt8 := dkwJ21_copyOf_0 ++ []
theorem dksJ21_copyOf_0 : cJ21_copyOf.data.toList.drop 0 = dktJ21_copyOf_0 := by decide +kernel
theorem dJ21_copyOf_0 : decode cJ21_copyOf 0 = .ok (.aload_n 0, 1) := dk_42 (dk_at dksJ21_copyOf_0 0 rfl rfl)
theorem dJ21_copyOf_1 : decode cJ21_copyOf 1 = .ok (.iload_n 1, 1) := dk_27 (dk_at dksJ21_copyOf_0 1 rfl rfl)
theorem dJ21_copyOf_2 : decode cJ21_copyOf 2 = .ok (.aload_n 0, 1) := dk_42 (dk_at dksJ21_copyOf_0 2 rfl rfl)
theorem dJ21_copyOf_3 : decode cJ21_copyOf 3 = .ok (.invokevirtual 86, 3) := dk_182 0 86 (dk_at dksJ21_copyOf_0 3 rfl rfl)
theorem dJ21_copyOf_6 : decode cJ21_copyOf 6 = .ok (.invokestatic 300, 3) := dk_184 1 44 (dk_at dksJ21_copyOf_0 6 rfl rfl)
theorem dJ21_copyOf_9 : decode cJ21_copyOf 9 = .ok (.areturn, 1) := dk_176 (dk_at dksJ21_copyOf_0 9 rfl rfl)
abbrev cJ21_copyOf_2 : ByteArray := prog_42_method_120_code
def yJ21_copyOf_2 : MethodName := ⟨RJ21, "copyOf", "([Ljava/lang/Object;ILjava/lang/Class;)[Ljava/lang/Object;"⟩
def dkwJ21_copyOf_2_1 : List UInt8 := [78, 42, 3, 45, 3, 42, 190, 27, 184, 1, 48, 184, 0, 150, 45, 176]
abbrev dktJ21_copyOf_2_1 : List UInt8 := dkwJ21_copyOf_2_1 ++ []
def dkwJ21_copyOf_2_0 : List UInt8 := [44, 18, 110, 166, 0, 10, 27, 189, 0, 2, 167, 0, 14, 44, 182, 0, 90, 27, 184, 0, 95, 192, 0, 110]
abbrev dktJ21_copyOf_2_0 : List UInt8 := dkwJ21_copyOf_2_0 ++ dktJ21_copyOf_2_1
theorem dksJ21_copyOf_2_0 : cJ21_copyOf_2.data.toList.drop 0 = dktJ21_copyOf_2_0 := by decide +kernel
theorem dksJ21_copyOf_2_1 : cJ21_copyOf_2.data.toList.drop 24 = dktJ21_copyOf_2_1 := dk_seg dksJ21_copyOf_2_0 24 rfl rfl
theorem dJ21_copyOf_2_0 : decode cJ21_copyOf_2 0 = .ok (.aload_n 2, 1) := dk_44 (dk_at dksJ21_copyOf_2_0 0 rfl rfl)
theorem dJ21_copyOf_2_1 : decode cJ21_copyOf_2 1 = .ok (.ldc 110, 2) := dk_18 110 (dk_at dksJ21_copyOf_2_0 1 rfl rfl)
theorem dJ21_copyOf_2_3 : decode cJ21_copyOf_2 3 = .ok (.if_acmp .ne 10, 3) := dk_166 0 10 (dk_at dksJ21_copyOf_2_0 3 rfl rfl)
theorem dJ21_copyOf_2_6 : decode cJ21_copyOf_2 6 = .ok (.iload_n 1, 1) := dk_27 (dk_at dksJ21_copyOf_2_0 6 rfl rfl)
theorem dJ21_copyOf_2_7 : decode cJ21_copyOf_2 7 = .ok (.anewarray 2, 3) := dk_189 0 2 (dk_at dksJ21_copyOf_2_0 7 rfl rfl)
theorem dJ21_copyOf_2_10 : decode cJ21_copyOf_2 10 = .ok (.goto 14, 3) := dk_167 0 14 (dk_at dksJ21_copyOf_2_0 10 rfl rfl)
theorem dJ21_copyOf_2_13 : decode cJ21_copyOf_2 13 = .ok (.aload_n 2, 1) := dk_44 (dk_at dksJ21_copyOf_2_0 13 rfl rfl)
theorem dJ21_copyOf_2_14 : decode cJ21_copyOf_2 14 = .ok (.invokevirtual 90, 3) := dk_182 0 90 (dk_at dksJ21_copyOf_2_0 14 rfl rfl)
theorem dJ21_copyOf_2_17 : decode cJ21_copyOf_2 17 = .ok (.iload_n 1, 1) := dk_27 (dk_at dksJ21_copyOf_2_0 17 rfl rfl)
theorem dJ21_copyOf_2_18 : decode cJ21_copyOf_2 18 = .ok (.invokestatic 95, 3) := dk_184 0 95 (dk_at dksJ21_copyOf_2_0 18 rfl rfl)
theorem dJ21_copyOf_2_21 : decode cJ21_copyOf_2 21 = .ok (.checkcast 110, 3) := dk_192 0 110 (dk_at dksJ21_copyOf_2_0 21 rfl rfl)
theorem dJ21_copyOf_2_24 : decode cJ21_copyOf_2 24 = .ok (.astore_n 3, 1) := dk_78 (dk_at dksJ21_copyOf_2_1 0 rfl rfl)
theorem dJ21_copyOf_2_25 : decode cJ21_copyOf_2 25 = .ok (.aload_n 0, 1) := dk_42 (dk_at dksJ21_copyOf_2_1 1 rfl rfl)
theorem dJ21_copyOf_2_26 : decode cJ21_copyOf_2 26 = .ok (.iconst 0, 1) := dk_3 (dk_at dksJ21_copyOf_2_1 2 rfl rfl)
theorem dJ21_copyOf_2_27 : decode cJ21_copyOf_2 27 = .ok (.aload_n 3, 1) := dk_45 (dk_at dksJ21_copyOf_2_1 3 rfl rfl)
theorem dJ21_copyOf_2_28 : decode cJ21_copyOf_2 28 = .ok (.iconst 0, 1) := dk_3 (dk_at dksJ21_copyOf_2_1 4 rfl rfl)
theorem dJ21_copyOf_2_29 : decode cJ21_copyOf_2 29 = .ok (.aload_n 0, 1) := dk_42 (dk_at dksJ21_copyOf_2_1 5 rfl rfl)
theorem dJ21_copyOf_2_30 : decode cJ21_copyOf_2 30 = .ok (.arraylength, 1) := dk_190 (dk_at dksJ21_copyOf_2_1 6 rfl rfl)
theorem dJ21_copyOf_2_31 : decode cJ21_copyOf_2 31 = .ok (.iload_n 1, 1) := dk_27 (dk_at dksJ21_copyOf_2_1 7 rfl rfl)
theorem dJ21_copyOf_2_32 : decode cJ21_copyOf_2 32 = .ok (.invokestatic 304, 3) := dk_184 1 48 (dk_at dksJ21_copyOf_2_1 8 rfl rfl)
theorem dJ21_copyOf_2_35 : decode cJ21_copyOf_2 35 = .ok (.invokestatic 150, 3) := dk_184 0 150 (dk_at dksJ21_copyOf_2_1 11 rfl rfl)
theorem dJ21_copyOf_2_38 : decode cJ21_copyOf_2 38 = .ok (.aload_n 3, 1) := dk_45 (dk_at dksJ21_copyOf_2_1 14 rfl rfl)
theorem dJ21_copyOf_2_39 : decode cJ21_copyOf_2 39 = .ok (.areturn, 1) := dk_176 (dk_at dksJ21_copyOf_2_1 15 rfl rfl)
abbrev cJ21_copyOf_3 : ByteArray := prog_42_method_121_code
def yJ21_copyOf_3 : MethodName := ⟨RJ21, "copyOf", "([BI)[B"⟩
def dkwJ21_copyOf_3_1 : List UInt8 := [27, 184, 1, 48, 184, 0, 150, 44, 176]
abbrev dktJ21_copyOf_3_1 : List UInt8 := dkwJ21_copyOf_3_1 ++ []
def dkwJ21_copyOf_3_0 : List UInt8 := [27, 42, 190, 160, 0, 11, 42, 182, 1, 54, 192, 1, 55, 176, 27, 188, 8, 77, 42, 3, 44, 3, 42, 190]
abbrev dktJ21_copyOf_3_0 : List UInt8 := dkwJ21_copyOf_3_0 ++ dktJ21_copyOf_3_1
theorem dksJ21_copyOf_3_0 : cJ21_copyOf_3.data.toList.drop 0 = dktJ21_copyOf_3_0 := by decide +kernel
theorem dksJ21_copyOf_3_1 : cJ21_copyOf_3.data.toList.drop 24 = dktJ21_copyOf_3_1 := dk_seg dksJ21_copyOf_3_0 24 rfl rfl
theorem dJ21_copyOf_3_0 : decode cJ21_copyOf_3 0 = .ok (.iload_n 1, 1) := dk_27 (dk_at dksJ21_copyOf_3_0 0 rfl rfl)
theorem dJ21_copyOf_3_1 : decode cJ21_copyOf_3 1 = .ok (.aload_n 0, 1) := dk_42 (dk_at dksJ21_copyOf_3_0 1 rfl rfl)
theorem dJ21_copyOf_3_2 : decode cJ21_copyOf_3 2 = .ok (.arraylength, 1) := dk_190 (dk_at dksJ21_copyOf_3_0 2 rfl rfl)
theorem dJ21_copyOf_3_3 : decode cJ21_copyOf_3 3 = .ok (.if_icmp .ne 11, 3) := dk_160 0 11 (dk_at dksJ21_copyOf_3_0 3 rfl rfl)
theorem dJ21_copyOf_3_6 : decode cJ21_copyOf_3 6 = .ok (.aload_n 0, 1) := dk_42 (dk_at dksJ21_copyOf_3_0 6 rfl rfl)
theorem dJ21_copyOf_3_7 : decode cJ21_copyOf_3 7 = .ok (.invokevirtual 310, 3) := dk_182 1 54 (dk_at dksJ21_copyOf_3_0 7 rfl rfl)
theorem dJ21_copyOf_3_10 : decode cJ21_copyOf_3 10 = .ok (.checkcast 311, 3) := dk_192 1 55 (dk_at dksJ21_copyOf_3_0 10 rfl rfl)
theorem dJ21_copyOf_3_13 : decode cJ21_copyOf_3 13 = .ok (.areturn, 1) := dk_176 (dk_at dksJ21_copyOf_3_0 13 rfl rfl)
theorem dJ21_copyOf_3_14 : decode cJ21_copyOf_3 14 = .ok (.iload_n 1, 1) := dk_27 (dk_at dksJ21_copyOf_3_0 14 rfl rfl)
theorem dJ21_copyOf_3_15 : decode cJ21_copyOf_3 15 = .ok (.newarray .byte, 2) := dk_188_8 (dk_at dksJ21_copyOf_3_0 15 rfl rfl)
theorem dJ21_copyOf_3_17 : decode cJ21_copyOf_3 17 = .ok (.astore_n 2, 1) := dk_77 (dk_at dksJ21_copyOf_3_0 17 rfl rfl)
theorem dJ21_copyOf_3_18 : decode cJ21_copyOf_3 18 = .ok (.aload_n 0, 1) := dk_42 (dk_at dksJ21_copyOf_3_0 18 rfl rfl)
theorem dJ21_copyOf_3_19 : decode cJ21_copyOf_3 19 = .ok (.iconst 0, 1) := dk_3 (dk_at dksJ21_copyOf_3_0 19 rfl rfl)
theorem dJ21_copyOf_3_20 : decode cJ21_copyOf_3 20 = .ok (.aload_n 2, 1) := dk_44 (dk_at dksJ21_copyOf_3_0 20 rfl rfl)
theorem dJ21_copyOf_3_21 : decode cJ21_copyOf_3 21 = .ok (.iconst 0, 1) := dk_3 (dk_at dksJ21_copyOf_3_0 21 rfl rfl)
theorem dJ21_copyOf_3_22 : decode cJ21_copyOf_3 22 = .ok (.aload_n 0, 1) := dk_42 (dk_at dksJ21_copyOf_3_0 22 rfl rfl)
theorem dJ21_copyOf_3_23 : decode cJ21_copyOf_3 23 = .ok (.arraylength, 1) := dk_190 (dk_at dksJ21_copyOf_3_0 23 rfl rfl)
theorem dJ21_copyOf_3_24 : decode cJ21_copyOf_3 24 = .ok (.iload_n 1, 1) := dk_27 (dk_at dksJ21_copyOf_3_1 0 rfl rfl)
theorem dJ21_copyOf_3_25 : decode cJ21_copyOf_3 25 = .ok (.invokestatic 304, 3) := dk_184 1 48 (dk_at dksJ21_copyOf_3_1 1 rfl rfl)
theorem dJ21_copyOf_3_28 : decode cJ21_copyOf_3 28 = .ok (.invokestatic 150, 3) := dk_184 0 150 (dk_at dksJ21_copyOf_3_1 4 rfl rfl)
theorem dJ21_copyOf_3_31 : decode cJ21_copyOf_3 31 = .ok (.aload_n 2, 1) := dk_44 (dk_at dksJ21_copyOf_3_1 7 rfl rfl)
theorem dJ21_copyOf_3_32 : decode cJ21_copyOf_3 32 = .ok (.areturn, 1) := dk_176 (dk_at dksJ21_copyOf_3_1 8 rfl rfl)
abbrev cJ21_copyOfRange : ByteArray := prog_42_method_132_code
def yJ21_copyOfRange : MethodName := ⟨RJ21, "copyOfRange", "([BII)[B"⟩
def dkwJ21_copyOfRange_1 : List UInt8 := [176]
abbrev dktJ21_copyOfRange_1 : List UInt8 := dkwJ21_copyOfRange_1 ++ []
def dkwJ21_copyOfRange_0 : List UInt8 := [27, 154, 0, 9, 28, 42, 190, 159, 0, 10, 42, 27, 28, 184, 1, 83, 176, 42, 182, 1, 54, 192, 1, 55]
abbrev dktJ21_copyOfRange_0 : List UInt8 := dkwJ21_copyOfRange_0 ++ dktJ21_copyOfRange_1
theorem dksJ21_copyOfRange_0 : cJ21_copyOfRange.data.toList.drop 0 = dktJ21_copyOfRange_0 := by decide +kernel
theorem dksJ21_copyOfRange_1 : cJ21_copyOfRange.data.toList.drop 24 = dktJ21_copyOfRange_1 := dk_seg dksJ21_copyOfRange_0 24 rfl rfl
theorem dJ21_copyOfRange_0 : decode cJ21_copyOfRange 0 = .ok (.iload_n 1, 1) := dk_27 (dk_at dksJ21_copyOfRange_0 0 rfl rfl)
theorem dJ21_copyOfRange_1 : decode cJ21_copyOfRange 1 = .ok (.ifCond .ne 9, 3) := dk_154 0 9 (dk_at dksJ21_copyOfRange_0 1 rfl rfl)
theorem dJ21_copyOfRange_4 : decode cJ21_copyOfRange 4 = .ok (.iload_n 2, 1) := dk_28 (dk_at dksJ21_copyOfRange_0 4 rfl rfl)
theorem dJ21_copyOfRange_5 : decode cJ21_copyOfRange 5 = .ok (.aload_n 0, 1) := dk_42 (dk_at dksJ21_copyOfRange_0 5 rfl rfl)
theorem dJ21_copyOfRange_6 : decode cJ21_copyOfRange 6 = .ok (.arraylength, 1) := dk_190 (dk_at dksJ21_copyOfRange_0 6 rfl rfl)
theorem dJ21_copyOfRange_7 : decode cJ21_copyOfRange 7 = .ok (.if_icmp .eq 10, 3) := dk_159 0 10 (dk_at dksJ21_copyOfRange_0 7 rfl rfl)
theorem dJ21_copyOfRange_10 : decode cJ21_copyOfRange 10 = .ok (.aload_n 0, 1) := dk_42 (dk_at dksJ21_copyOfRange_0 10 rfl rfl)
theorem dJ21_copyOfRange_11 : decode cJ21_copyOfRange 11 = .ok (.iload_n 1, 1) := dk_27 (dk_at dksJ21_copyOfRange_0 11 rfl rfl)
theorem dJ21_copyOfRange_12 : decode cJ21_copyOfRange 12 = .ok (.iload_n 2, 1) := dk_28 (dk_at dksJ21_copyOfRange_0 12 rfl rfl)
theorem dJ21_copyOfRange_13 : decode cJ21_copyOfRange 13 = .ok (.invokestatic 339, 3) := dk_184 1 83 (dk_at dksJ21_copyOfRange_0 13 rfl rfl)
theorem dJ21_copyOfRange_16 : decode cJ21_copyOfRange 16 = .ok (.areturn, 1) := dk_176 (dk_at dksJ21_copyOfRange_0 16 rfl rfl)
theorem dJ21_copyOfRange_17 : decode cJ21_copyOfRange 17 = .ok (.aload_n 0, 1) := dk_42 (dk_at dksJ21_copyOfRange_0 17 rfl rfl)
theorem dJ21_copyOfRange_18 : decode cJ21_copyOfRange 18 = .ok (.invokevirtual 310, 3) := dk_182 1 54 (dk_at dksJ21_copyOfRange_0 18 rfl rfl)
theorem dJ21_copyOfRange_21 : decode cJ21_copyOfRange 21 = .ok (.checkcast 311, 3) := dk_192 1 55 (dk_at dksJ21_copyOfRange_0 21 rfl rfl)
theorem dJ21_copyOfRange_24 : decode cJ21_copyOfRange 24 = .ok (.areturn, 1) := dk_176 (dk_at dksJ21_copyOfRange_1 0 rfl rfl)
abbrev cJ21_copyOfRangeByte : ByteArray := prog_42_method_133_code
def yJ21_copyOfRangeByte : MethodName := ⟨RJ21, "copyOfRangeByte", "([BII)[B"⟩
def dkwJ21_copyOfRangeByte_1 : List UInt8 := [184, 1, 48, 184, 0, 150, 25, 4, 176]
abbrev dktJ21_copyOfRangeByte_1 : List UInt8 := dkwJ21_copyOfRangeByte_1 ++ []
def dkwJ21_copyOfRangeByte_0 : List UInt8 := [27, 28, 184, 1, 87, 28, 27, 100, 62, 29, 188, 8, 58, 4, 42, 27, 25, 4, 3, 42, 190, 27, 100, 29]
abbrev dktJ21_copyOfRangeByte_0 : List UInt8 := dkwJ21_copyOfRangeByte_0 ++ dktJ21_copyOfRangeByte_1
theorem dksJ21_copyOfRangeByte_0 : cJ21_copyOfRangeByte.data.toList.drop 0 = dktJ21_copyOfRangeByte_0 := by decide +kernel
theorem dksJ21_copyOfRangeByte_1 : cJ21_copyOfRangeByte.data.toList.drop 24 = dktJ21_copyOfRangeByte_1 := dk_seg dksJ21_copyOfRangeByte_0 24 rfl rfl
theorem dJ21_copyOfRangeByte_0 : decode cJ21_copyOfRangeByte 0 = .ok (.iload_n 1, 1) := dk_27 (dk_at dksJ21_copyOfRangeByte_0 0 rfl rfl)
theorem dJ21_copyOfRangeByte_1 : decode cJ21_copyOfRangeByte 1 = .ok (.iload_n 2, 1) := dk_28 (dk_at dksJ21_copyOfRangeByte_0 1 rfl rfl)
theorem dJ21_copyOfRangeByte_2 : decode cJ21_copyOfRangeByte 2 = .ok (.invokestatic 343, 3) := dk_184 1 87 (dk_at dksJ21_copyOfRangeByte_0 2 rfl rfl)
theorem dJ21_copyOfRangeByte_5 : decode cJ21_copyOfRangeByte 5 = .ok (.iload_n 2, 1) := dk_28 (dk_at dksJ21_copyOfRangeByte_0 5 rfl rfl)
theorem dJ21_copyOfRangeByte_6 : decode cJ21_copyOfRangeByte 6 = .ok (.iload_n 1, 1) := dk_27 (dk_at dksJ21_copyOfRangeByte_0 6 rfl rfl)
theorem dJ21_copyOfRangeByte_7 : decode cJ21_copyOfRangeByte 7 = .ok (.isub, 1) := dk_100 (dk_at dksJ21_copyOfRangeByte_0 7 rfl rfl)
theorem dJ21_copyOfRangeByte_8 : decode cJ21_copyOfRangeByte 8 = .ok (.istore_n 3, 1) := dk_62 (dk_at dksJ21_copyOfRangeByte_0 8 rfl rfl)
theorem dJ21_copyOfRangeByte_9 : decode cJ21_copyOfRangeByte 9 = .ok (.iload_n 3, 1) := dk_29 (dk_at dksJ21_copyOfRangeByte_0 9 rfl rfl)
theorem dJ21_copyOfRangeByte_10 : decode cJ21_copyOfRangeByte 10 = .ok (.newarray .byte, 2) := dk_188_8 (dk_at dksJ21_copyOfRangeByte_0 10 rfl rfl)
theorem dJ21_copyOfRangeByte_12 : decode cJ21_copyOfRangeByte 12 = .ok (.astore 4, 2) := dk_58 4 (dk_at dksJ21_copyOfRangeByte_0 12 rfl rfl)
theorem dJ21_copyOfRangeByte_14 : decode cJ21_copyOfRangeByte 14 = .ok (.aload_n 0, 1) := dk_42 (dk_at dksJ21_copyOfRangeByte_0 14 rfl rfl)
theorem dJ21_copyOfRangeByte_15 : decode cJ21_copyOfRangeByte 15 = .ok (.iload_n 1, 1) := dk_27 (dk_at dksJ21_copyOfRangeByte_0 15 rfl rfl)
theorem dJ21_copyOfRangeByte_16 : decode cJ21_copyOfRangeByte 16 = .ok (.aload 4, 2) := dk_25 4 (dk_at dksJ21_copyOfRangeByte_0 16 rfl rfl)
theorem dJ21_copyOfRangeByte_18 : decode cJ21_copyOfRangeByte 18 = .ok (.iconst 0, 1) := dk_3 (dk_at dksJ21_copyOfRangeByte_0 18 rfl rfl)
theorem dJ21_copyOfRangeByte_19 : decode cJ21_copyOfRangeByte 19 = .ok (.aload_n 0, 1) := dk_42 (dk_at dksJ21_copyOfRangeByte_0 19 rfl rfl)
theorem dJ21_copyOfRangeByte_20 : decode cJ21_copyOfRangeByte 20 = .ok (.arraylength, 1) := dk_190 (dk_at dksJ21_copyOfRangeByte_0 20 rfl rfl)
theorem dJ21_copyOfRangeByte_21 : decode cJ21_copyOfRangeByte 21 = .ok (.iload_n 1, 1) := dk_27 (dk_at dksJ21_copyOfRangeByte_0 21 rfl rfl)
theorem dJ21_copyOfRangeByte_22 : decode cJ21_copyOfRangeByte 22 = .ok (.isub, 1) := dk_100 (dk_at dksJ21_copyOfRangeByte_0 22 rfl rfl)
theorem dJ21_copyOfRangeByte_23 : decode cJ21_copyOfRangeByte 23 = .ok (.iload_n 3, 1) := dk_29 (dk_at dksJ21_copyOfRangeByte_0 23 rfl rfl)
theorem dJ21_copyOfRangeByte_24 : decode cJ21_copyOfRangeByte 24 = .ok (.invokestatic 304, 3) := dk_184 1 48 (dk_at dksJ21_copyOfRangeByte_1 0 rfl rfl)
theorem dJ21_copyOfRangeByte_27 : decode cJ21_copyOfRangeByte 27 = .ok (.invokestatic 150, 3) := dk_184 0 150 (dk_at dksJ21_copyOfRangeByte_1 3 rfl rfl)
theorem dJ21_copyOfRangeByte_30 : decode cJ21_copyOfRangeByte 30 = .ok (.aload 4, 2) := dk_25 4 (dk_at dksJ21_copyOfRangeByte_1 6 rfl rfl)
theorem dJ21_copyOfRangeByte_32 : decode cJ21_copyOfRangeByte 32 = .ok (.areturn, 1) := dk_176 (dk_at dksJ21_copyOfRangeByte_1 8 rfl rfl)
abbrev cJ21_checkLength : ByteArray := prog_42_method_131_code
def yJ21_checkLength : MethodName := ⟨RJ21, "checkLength", "(II)V"⟩
def dkwJ21_checkLength_1 : List UInt8 := [182, 0, 50, 27, 182, 0, 54, 182, 0, 61, 183, 0, 65, 191, 177]
abbrev dktJ21_checkLength_1 : List UInt8 := dkwJ21_checkLength_1 ++ []
def dkwJ21_checkLength_0 : List UInt8 := [27, 26, 162, 0, 35, 187, 0, 43, 89, 187, 0, 45, 89, 183, 0, 47, 26, 182, 0, 54, 19, 1, 81]
abbrev dktJ21_checkLength_0 : List UInt8 := dkwJ21_checkLength_0 ++ dktJ21_checkLength_1
theorem dksJ21_checkLength_0 : cJ21_checkLength.data.toList.drop 0 = dktJ21_checkLength_0 := by decide +kernel
theorem dksJ21_checkLength_1 : cJ21_checkLength.data.toList.drop 23 = dktJ21_checkLength_1 := dk_seg dksJ21_checkLength_0 23 rfl rfl
theorem dJ21_checkLength_0 : decode cJ21_checkLength 0 = .ok (.iload_n 1, 1) := dk_27 (dk_at dksJ21_checkLength_0 0 rfl rfl)
theorem dJ21_checkLength_1 : decode cJ21_checkLength 1 = .ok (.iload_n 0, 1) := dk_26 (dk_at dksJ21_checkLength_0 1 rfl rfl)
theorem dJ21_checkLength_2 : decode cJ21_checkLength 2 = .ok (.if_icmp .ge 35, 3) := dk_162 0 35 (dk_at dksJ21_checkLength_0 2 rfl rfl)
theorem dJ21_checkLength_5 : decode cJ21_checkLength 5 = .ok (.new 43, 3) := dk_187 0 43 (dk_at dksJ21_checkLength_0 5 rfl rfl)
theorem dJ21_checkLength_8 : decode cJ21_checkLength 8 = .ok (.dup, 1) := dk_89 (dk_at dksJ21_checkLength_0 8 rfl rfl)
theorem dJ21_checkLength_9 : decode cJ21_checkLength 9 = .ok (.new 45, 3) := dk_187 0 45 (dk_at dksJ21_checkLength_0 9 rfl rfl)
theorem dJ21_checkLength_12 : decode cJ21_checkLength 12 = .ok (.dup, 1) := dk_89 (dk_at dksJ21_checkLength_0 12 rfl rfl)
theorem dJ21_checkLength_13 : decode cJ21_checkLength 13 = .ok (.invokespecial 47, 3) := dk_183 0 47 (dk_at dksJ21_checkLength_0 13 rfl rfl)
theorem dJ21_checkLength_16 : decode cJ21_checkLength 16 = .ok (.iload_n 0, 1) := dk_26 (dk_at dksJ21_checkLength_0 16 rfl rfl)
theorem dJ21_checkLength_17 : decode cJ21_checkLength 17 = .ok (.invokevirtual 54, 3) := dk_182 0 54 (dk_at dksJ21_checkLength_0 17 rfl rfl)
theorem dJ21_checkLength_20 : decode cJ21_checkLength 20 = .ok (.ldc_w 337, 3) := dk_19 1 81 (dk_at dksJ21_checkLength_0 20 rfl rfl)
theorem dJ21_checkLength_23 : decode cJ21_checkLength 23 = .ok (.invokevirtual 50, 3) := dk_182 0 50 (dk_at dksJ21_checkLength_1 0 rfl rfl)
theorem dJ21_checkLength_26 : decode cJ21_checkLength 26 = .ok (.iload_n 1, 1) := dk_27 (dk_at dksJ21_checkLength_1 3 rfl rfl)
theorem dJ21_checkLength_27 : decode cJ21_checkLength 27 = .ok (.invokevirtual 54, 3) := dk_182 0 54 (dk_at dksJ21_checkLength_1 4 rfl rfl)
theorem dJ21_checkLength_30 : decode cJ21_checkLength 30 = .ok (.invokevirtual 61, 3) := dk_182 0 61 (dk_at dksJ21_checkLength_1 7 rfl rfl)
theorem dJ21_checkLength_33 : decode cJ21_checkLength 33 = .ok (.invokespecial 65, 3) := dk_183 0 65 (dk_at dksJ21_checkLength_1 10 rfl rfl)
theorem dJ21_checkLength_36 : decode cJ21_checkLength 36 = .ok (.athrow, 1) := dk_191 (dk_at dksJ21_checkLength_1 13 rfl rfl)
theorem dJ21_checkLength_37 : decode cJ21_checkLength 37 = .ok (.return_, 1) := dk_177 (dk_at dksJ21_checkLength_1 14 rfl rfl)
abbrev cJ21_fill : ByteArray := prog_42_method_110_code
def yJ21_fill : MethodName := ⟨RJ21, "fill", "([BIIB)V"⟩
def dkwJ21_fill_1 : List UInt8 := [167, 255, 242, 177]
abbrev dktJ21_fill_1 : List UInt8 := dkwJ21_fill_1 ++ []
def dkwJ21_fill_0 : List UInt8 := [42, 190, 27, 28, 184, 0, 13, 27, 54, 4, 21, 4, 28, 162, 0, 14, 42, 21, 4, 29, 84, 132, 4, 1]
abbrev dktJ21_fill_0 : List UInt8 := dkwJ21_fill_0 ++ dktJ21_fill_1
theorem dksJ21_fill_0 : cJ21_fill.data.toList.drop 0 = dktJ21_fill_0 := by decide +kernel
theorem dksJ21_fill_1 : cJ21_fill.data.toList.drop 24 = dktJ21_fill_1 := dk_seg dksJ21_fill_0 24 rfl rfl
theorem dJ21_fill_0 : decode cJ21_fill 0 = .ok (.aload_n 0, 1) := dk_42 (dk_at dksJ21_fill_0 0 rfl rfl)
theorem dJ21_fill_1 : decode cJ21_fill 1 = .ok (.arraylength, 1) := dk_190 (dk_at dksJ21_fill_0 1 rfl rfl)
theorem dJ21_fill_2 : decode cJ21_fill 2 = .ok (.iload_n 1, 1) := dk_27 (dk_at dksJ21_fill_0 2 rfl rfl)
theorem dJ21_fill_3 : decode cJ21_fill 3 = .ok (.iload_n 2, 1) := dk_28 (dk_at dksJ21_fill_0 3 rfl rfl)
theorem dJ21_fill_4 : decode cJ21_fill 4 = .ok (.invokestatic 13, 3) := dk_184 0 13 (dk_at dksJ21_fill_0 4 rfl rfl)
theorem dJ21_fill_7 : decode cJ21_fill 7 = .ok (.iload_n 1, 1) := dk_27 (dk_at dksJ21_fill_0 7 rfl rfl)
theorem dJ21_fill_8 : decode cJ21_fill 8 = .ok (.istore 4, 2) := dk_54 4 (dk_at dksJ21_fill_0 8 rfl rfl)
theorem dJ21_fill_10 : decode cJ21_fill 10 = .ok (.iload 4, 2) := dk_21 4 (dk_at dksJ21_fill_0 10 rfl rfl)
theorem dJ21_fill_12 : decode cJ21_fill 12 = .ok (.iload_n 2, 1) := dk_28 (dk_at dksJ21_fill_0 12 rfl rfl)
theorem dJ21_fill_13 : decode cJ21_fill 13 = .ok (.if_icmp .ge 14, 3) := dk_162 0 14 (dk_at dksJ21_fill_0 13 rfl rfl)
theorem dJ21_fill_16 : decode cJ21_fill 16 = .ok (.aload_n 0, 1) := dk_42 (dk_at dksJ21_fill_0 16 rfl rfl)
theorem dJ21_fill_17 : decode cJ21_fill 17 = .ok (.iload 4, 2) := dk_21 4 (dk_at dksJ21_fill_0 17 rfl rfl)
theorem dJ21_fill_19 : decode cJ21_fill 19 = .ok (.iload_n 3, 1) := dk_29 (dk_at dksJ21_fill_0 19 rfl rfl)
theorem dJ21_fill_20 : decode cJ21_fill 20 = .ok (.bastore, 1) := dk_84 (dk_at dksJ21_fill_0 20 rfl rfl)
theorem dJ21_fill_21 : decode cJ21_fill 21 = .ok (.iinc 4 1, 3) := dk_132 4 1 (dk_at dksJ21_fill_0 21 rfl rfl)
theorem dJ21_fill_24 : decode cJ21_fill 24 = .ok (.goto (-14), 3) := dk_167 255 242 (dk_at dksJ21_fill_1 0 rfl rfl)
theorem dJ21_fill_27 : decode cJ21_fill 27 = .ok (.return_, 1) := dk_177 (dk_at dksJ21_fill_1 3 rfl rfl)
abbrev cJ21_rangeCheck : ByteArray := prog_42_method_30_code
def yJ21_rangeCheck : MethodName := ⟨RJ21, "rangeCheck", "(III)V"⟩
def dkwJ21_rangeCheck_3 : List UInt8 := [183, 0, 70, 191, 177]
abbrev dktJ21_rangeCheck_3 : List UInt8 := dkwJ21_rangeCheck_3 ++ []
def dkwJ21_rangeCheck_2 : List UInt8 := [27, 156, 0, 12, 187, 0, 68, 89, 27, 183, 0, 70, 191, 28, 26, 164, 0, 12, 187, 0, 68, 89, 28]
abbrev dktJ21_rangeCheck_2 : List UInt8 := dkwJ21_rangeCheck_2 ++ dktJ21_rangeCheck_3
def dkwJ21_rangeCheck_1 : List UInt8 := [182, 0, 54, 18, 57, 182, 0, 50, 28, 182, 0, 54, 18, 59, 182, 0, 50, 182, 0, 61, 183, 0, 65, 191]
abbrev dktJ21_rangeCheck_1 : List UInt8 := dkwJ21_rangeCheck_1 ++ dktJ21_rangeCheck_2
def dkwJ21_rangeCheck_0 : List UInt8 := [27, 28, 164, 0, 44, 187, 0, 43, 89, 187, 0, 45, 89, 183, 0, 47, 18, 48, 182, 0, 50, 27]
abbrev dktJ21_rangeCheck_0 : List UInt8 := dkwJ21_rangeCheck_0 ++ dktJ21_rangeCheck_1
theorem dksJ21_rangeCheck_0 : cJ21_rangeCheck.data.toList.drop 0 = dktJ21_rangeCheck_0 := by decide +kernel
theorem dksJ21_rangeCheck_1 : cJ21_rangeCheck.data.toList.drop 22 = dktJ21_rangeCheck_1 := dk_seg dksJ21_rangeCheck_0 22 rfl rfl
theorem dksJ21_rangeCheck_2 : cJ21_rangeCheck.data.toList.drop 46 = dktJ21_rangeCheck_2 := dk_seg dksJ21_rangeCheck_1 24 rfl rfl
theorem dksJ21_rangeCheck_3 : cJ21_rangeCheck.data.toList.drop 69 = dktJ21_rangeCheck_3 := dk_seg dksJ21_rangeCheck_2 23 rfl rfl
theorem dJ21_rangeCheck_0 : decode cJ21_rangeCheck 0 = .ok (.iload_n 1, 1) := dk_27 (dk_at dksJ21_rangeCheck_0 0 rfl rfl)
theorem dJ21_rangeCheck_1 : decode cJ21_rangeCheck 1 = .ok (.iload_n 2, 1) := dk_28 (dk_at dksJ21_rangeCheck_0 1 rfl rfl)
theorem dJ21_rangeCheck_2 : decode cJ21_rangeCheck 2 = .ok (.if_icmp .le 44, 3) := dk_164 0 44 (dk_at dksJ21_rangeCheck_0 2 rfl rfl)
theorem dJ21_rangeCheck_5 : decode cJ21_rangeCheck 5 = .ok (.new 43, 3) := dk_187 0 43 (dk_at dksJ21_rangeCheck_0 5 rfl rfl)
theorem dJ21_rangeCheck_8 : decode cJ21_rangeCheck 8 = .ok (.dup, 1) := dk_89 (dk_at dksJ21_rangeCheck_0 8 rfl rfl)
theorem dJ21_rangeCheck_9 : decode cJ21_rangeCheck 9 = .ok (.new 45, 3) := dk_187 0 45 (dk_at dksJ21_rangeCheck_0 9 rfl rfl)
theorem dJ21_rangeCheck_12 : decode cJ21_rangeCheck 12 = .ok (.dup, 1) := dk_89 (dk_at dksJ21_rangeCheck_0 12 rfl rfl)
theorem dJ21_rangeCheck_13 : decode cJ21_rangeCheck 13 = .ok (.invokespecial 47, 3) := dk_183 0 47 (dk_at dksJ21_rangeCheck_0 13 rfl rfl)
theorem dJ21_rangeCheck_16 : decode cJ21_rangeCheck 16 = .ok (.ldc 48, 2) := dk_18 48 (dk_at dksJ21_rangeCheck_0 16 rfl rfl)
theorem dJ21_rangeCheck_18 : decode cJ21_rangeCheck 18 = .ok (.invokevirtual 50, 3) := dk_182 0 50 (dk_at dksJ21_rangeCheck_0 18 rfl rfl)
theorem dJ21_rangeCheck_21 : decode cJ21_rangeCheck 21 = .ok (.iload_n 1, 1) := dk_27 (dk_at dksJ21_rangeCheck_0 21 rfl rfl)
theorem dJ21_rangeCheck_22 : decode cJ21_rangeCheck 22 = .ok (.invokevirtual 54, 3) := dk_182 0 54 (dk_at dksJ21_rangeCheck_1 0 rfl rfl)
theorem dJ21_rangeCheck_25 : decode cJ21_rangeCheck 25 = .ok (.ldc 57, 2) := dk_18 57 (dk_at dksJ21_rangeCheck_1 3 rfl rfl)
theorem dJ21_rangeCheck_27 : decode cJ21_rangeCheck 27 = .ok (.invokevirtual 50, 3) := dk_182 0 50 (dk_at dksJ21_rangeCheck_1 5 rfl rfl)
theorem dJ21_rangeCheck_30 : decode cJ21_rangeCheck 30 = .ok (.iload_n 2, 1) := dk_28 (dk_at dksJ21_rangeCheck_1 8 rfl rfl)
theorem dJ21_rangeCheck_31 : decode cJ21_rangeCheck 31 = .ok (.invokevirtual 54, 3) := dk_182 0 54 (dk_at dksJ21_rangeCheck_1 9 rfl rfl)
theorem dJ21_rangeCheck_34 : decode cJ21_rangeCheck 34 = .ok (.ldc 59, 2) := dk_18 59 (dk_at dksJ21_rangeCheck_1 12 rfl rfl)
theorem dJ21_rangeCheck_36 : decode cJ21_rangeCheck 36 = .ok (.invokevirtual 50, 3) := dk_182 0 50 (dk_at dksJ21_rangeCheck_1 14 rfl rfl)
theorem dJ21_rangeCheck_39 : decode cJ21_rangeCheck 39 = .ok (.invokevirtual 61, 3) := dk_182 0 61 (dk_at dksJ21_rangeCheck_1 17 rfl rfl)
theorem dJ21_rangeCheck_42 : decode cJ21_rangeCheck 42 = .ok (.invokespecial 65, 3) := dk_183 0 65 (dk_at dksJ21_rangeCheck_1 20 rfl rfl)
theorem dJ21_rangeCheck_45 : decode cJ21_rangeCheck 45 = .ok (.athrow, 1) := dk_191 (dk_at dksJ21_rangeCheck_1 23 rfl rfl)
theorem dJ21_rangeCheck_46 : decode cJ21_rangeCheck 46 = .ok (.iload_n 1, 1) := dk_27 (dk_at dksJ21_rangeCheck_2 0 rfl rfl)
theorem dJ21_rangeCheck_47 : decode cJ21_rangeCheck 47 = .ok (.ifCond .ge 12, 3) := dk_156 0 12 (dk_at dksJ21_rangeCheck_2 1 rfl rfl)
theorem dJ21_rangeCheck_50 : decode cJ21_rangeCheck 50 = .ok (.new 68, 3) := dk_187 0 68 (dk_at dksJ21_rangeCheck_2 4 rfl rfl)
theorem dJ21_rangeCheck_53 : decode cJ21_rangeCheck 53 = .ok (.dup, 1) := dk_89 (dk_at dksJ21_rangeCheck_2 7 rfl rfl)
theorem dJ21_rangeCheck_54 : decode cJ21_rangeCheck 54 = .ok (.iload_n 1, 1) := dk_27 (dk_at dksJ21_rangeCheck_2 8 rfl rfl)
theorem dJ21_rangeCheck_55 : decode cJ21_rangeCheck 55 = .ok (.invokespecial 70, 3) := dk_183 0 70 (dk_at dksJ21_rangeCheck_2 9 rfl rfl)
theorem dJ21_rangeCheck_58 : decode cJ21_rangeCheck 58 = .ok (.athrow, 1) := dk_191 (dk_at dksJ21_rangeCheck_2 12 rfl rfl)
theorem dJ21_rangeCheck_59 : decode cJ21_rangeCheck 59 = .ok (.iload_n 2, 1) := dk_28 (dk_at dksJ21_rangeCheck_2 13 rfl rfl)
theorem dJ21_rangeCheck_60 : decode cJ21_rangeCheck 60 = .ok (.iload_n 0, 1) := dk_26 (dk_at dksJ21_rangeCheck_2 14 rfl rfl)
theorem dJ21_rangeCheck_61 : decode cJ21_rangeCheck 61 = .ok (.if_icmp .le 12, 3) := dk_164 0 12 (dk_at dksJ21_rangeCheck_2 15 rfl rfl)
theorem dJ21_rangeCheck_64 : decode cJ21_rangeCheck 64 = .ok (.new 68, 3) := dk_187 0 68 (dk_at dksJ21_rangeCheck_2 18 rfl rfl)
theorem dJ21_rangeCheck_67 : decode cJ21_rangeCheck 67 = .ok (.dup, 1) := dk_89 (dk_at dksJ21_rangeCheck_2 21 rfl rfl)
theorem dJ21_rangeCheck_68 : decode cJ21_rangeCheck 68 = .ok (.iload_n 2, 1) := dk_28 (dk_at dksJ21_rangeCheck_2 22 rfl rfl)
theorem dJ21_rangeCheck_69 : decode cJ21_rangeCheck 69 = .ok (.invokespecial 70, 3) := dk_183 0 70 (dk_at dksJ21_rangeCheck_3 0 rfl rfl)
theorem dJ21_rangeCheck_72 : decode cJ21_rangeCheck 72 = .ok (.athrow, 1) := dk_191 (dk_at dksJ21_rangeCheck_3 3 rfl rfl)
theorem dJ21_rangeCheck_73 : decode cJ21_rangeCheck 73 = .ok (.return_, 1) := dk_177 (dk_at dksJ21_rangeCheck_3 4 rfl rfl)
abbrev cJ21_copyOf_4 : ByteArray := prog_42_method_124_code
def yJ21_copyOf_4 : MethodName := ⟨RJ21, "copyOf", "([JI)[J"⟩
def dkwJ21_copyOf_4_1 : List UInt8 := [27, 184, 1, 48, 184, 0, 150, 44, 176]
abbrev dktJ21_copyOf_4_1 : List UInt8 := dkwJ21_copyOf_4_1 ++ []
def dkwJ21_copyOf_4_0 : List UInt8 := [27, 42, 190, 160, 0, 11, 42, 182, 1, 63, 192, 1, 64, 176, 27, 188, 11, 77, 42, 3, 44, 3, 42, 190]
abbrev dktJ21_copyOf_4_0 : List UInt8 := dkwJ21_copyOf_4_0 ++ dktJ21_copyOf_4_1
theorem dksJ21_copyOf_4_0 : cJ21_copyOf_4.data.toList.drop 0 = dktJ21_copyOf_4_0 := by decide +kernel
theorem dksJ21_copyOf_4_1 : cJ21_copyOf_4.data.toList.drop 24 = dktJ21_copyOf_4_1 := dk_seg dksJ21_copyOf_4_0 24 rfl rfl
theorem dJ21_copyOf_4_0 : decode cJ21_copyOf_4 0 = .ok (.iload_n 1, 1) := dk_27 (dk_at dksJ21_copyOf_4_0 0 rfl rfl)
theorem dJ21_copyOf_4_1 : decode cJ21_copyOf_4 1 = .ok (.aload_n 0, 1) := dk_42 (dk_at dksJ21_copyOf_4_0 1 rfl rfl)
theorem dJ21_copyOf_4_2 : decode cJ21_copyOf_4 2 = .ok (.arraylength, 1) := dk_190 (dk_at dksJ21_copyOf_4_0 2 rfl rfl)
theorem dJ21_copyOf_4_3 : decode cJ21_copyOf_4 3 = .ok (.if_icmp .ne 11, 3) := dk_160 0 11 (dk_at dksJ21_copyOf_4_0 3 rfl rfl)
theorem dJ21_copyOf_4_6 : decode cJ21_copyOf_4 6 = .ok (.aload_n 0, 1) := dk_42 (dk_at dksJ21_copyOf_4_0 6 rfl rfl)
theorem dJ21_copyOf_4_7 : decode cJ21_copyOf_4 7 = .ok (.invokevirtual 319, 3) := dk_182 1 63 (dk_at dksJ21_copyOf_4_0 7 rfl rfl)
theorem dJ21_copyOf_4_10 : decode cJ21_copyOf_4 10 = .ok (.checkcast 320, 3) := dk_192 1 64 (dk_at dksJ21_copyOf_4_0 10 rfl rfl)
theorem dJ21_copyOf_4_13 : decode cJ21_copyOf_4 13 = .ok (.areturn, 1) := dk_176 (dk_at dksJ21_copyOf_4_0 13 rfl rfl)
theorem dJ21_copyOf_4_14 : decode cJ21_copyOf_4 14 = .ok (.iload_n 1, 1) := dk_27 (dk_at dksJ21_copyOf_4_0 14 rfl rfl)
theorem dJ21_copyOf_4_15 : decode cJ21_copyOf_4 15 = .ok (.newarray .long, 2) := dk_188_11 (dk_at dksJ21_copyOf_4_0 15 rfl rfl)
theorem dJ21_copyOf_4_17 : decode cJ21_copyOf_4 17 = .ok (.astore_n 2, 1) := dk_77 (dk_at dksJ21_copyOf_4_0 17 rfl rfl)
theorem dJ21_copyOf_4_18 : decode cJ21_copyOf_4 18 = .ok (.aload_n 0, 1) := dk_42 (dk_at dksJ21_copyOf_4_0 18 rfl rfl)
theorem dJ21_copyOf_4_19 : decode cJ21_copyOf_4 19 = .ok (.iconst 0, 1) := dk_3 (dk_at dksJ21_copyOf_4_0 19 rfl rfl)
theorem dJ21_copyOf_4_20 : decode cJ21_copyOf_4 20 = .ok (.aload_n 2, 1) := dk_44 (dk_at dksJ21_copyOf_4_0 20 rfl rfl)
theorem dJ21_copyOf_4_21 : decode cJ21_copyOf_4 21 = .ok (.iconst 0, 1) := dk_3 (dk_at dksJ21_copyOf_4_0 21 rfl rfl)
theorem dJ21_copyOf_4_22 : decode cJ21_copyOf_4 22 = .ok (.aload_n 0, 1) := dk_42 (dk_at dksJ21_copyOf_4_0 22 rfl rfl)
theorem dJ21_copyOf_4_23 : decode cJ21_copyOf_4 23 = .ok (.arraylength, 1) := dk_190 (dk_at dksJ21_copyOf_4_0 23 rfl rfl)
theorem dJ21_copyOf_4_24 : decode cJ21_copyOf_4 24 = .ok (.iload_n 1, 1) := dk_27 (dk_at dksJ21_copyOf_4_1 0 rfl rfl)
theorem dJ21_copyOf_4_25 : decode cJ21_copyOf_4 25 = .ok (.invokestatic 304, 3) := dk_184 1 48 (dk_at dksJ21_copyOf_4_1 1 rfl rfl)
theorem dJ21_copyOf_4_28 : decode cJ21_copyOf_4 28 = .ok (.invokestatic 150, 3) := dk_184 0 150 (dk_at dksJ21_copyOf_4_1 4 rfl rfl)
theorem dJ21_copyOf_4_31 : decode cJ21_copyOf_4 31 = .ok (.aload_n 2, 1) := dk_44 (dk_at dksJ21_copyOf_4_1 7 rfl rfl)
theorem dJ21_copyOf_4_32 : decode cJ21_copyOf_4 32 = .ok (.areturn, 1) := dk_176 (dk_at dksJ21_copyOf_4_1 8 rfl rfl)
theorem q138 : (Jvm.Cond.initialized "java/util/Arrays") ∈ lw_all := lw_g (lw_at lw_m1 33 rfl) rfl
theorem q593 : (Jvm.Cond.static ({ cls := "java/util/Arrays", name := "copyOf", desc := "([Ljava/lang/Object;I)[Ljava/lang/Object;" } : Jvm.MethodName)) ∈ lw_all := lw_g (lw_at lw_m3 8 rfl) rfl
theorem q594 : (Jvm.Cond.code ({ cls := "java/util/Arrays", name := "copyOf", desc := "([Ljava/lang/Object;I)[Ljava/lang/Object;" } : Jvm.MethodName) prog_42_method_119_code (2 : Nat) (Option.some (Jvm.ClassFile.FieldType.array (Jvm.ClassFile.FieldType.object "java/lang/Object")))) ∈ lw_all := lw_g (lw_at lw_m3 9 rfl) rfl
theorem q595 : (Jvm.Cond.methodLink "java/util/Arrays" (86 : Nat) ({ cls := "java/lang/Object", name := "getClass", desc := "()Ljava/lang/Class;" } : Jvm.MethodName)) ∈ lw_all := lw_g (lw_at lw_m3 10 rfl) rfl
theorem q620 : (Jvm.Cond.methodLink "java/util/Arrays" (300 : Nat) ({ cls := "java/util/Arrays", name := "copyOf", desc := "([Ljava/lang/Object;ILjava/lang/Class;)[Ljava/lang/Object;" } : Jvm.MethodName)) ∈ lw_all := lw_g (lw_at lw_m3 35 rfl) rfl
theorem q621 : (Jvm.Cond.static ({ cls := "java/util/Arrays", name := "copyOf", desc := "([Ljava/lang/Object;ILjava/lang/Class;)[Ljava/lang/Object;" } : Jvm.MethodName)) ∈ lw_all := lw_g (lw_at lw_m3 36 rfl) rfl
theorem q622 : (Jvm.Cond.code ({ cls := "java/util/Arrays", name := "copyOf", desc := "([Ljava/lang/Object;ILjava/lang/Class;)[Ljava/lang/Object;" } : Jvm.MethodName) prog_42_method_120_code (4 : Nat) (Option.some (Jvm.ClassFile.FieldType.array (Jvm.ClassFile.FieldType.object "java/lang/Object")))) ∈ lw_all := lw_g (lw_at lw_m3 37 rfl) rfl
theorem q623 : (Jvm.Cond.classLink "java/util/Arrays" (110 : Nat) "[Ljava/lang/Object;") ∈ lw_all := lw_g (lw_at lw_m3 38 rfl) rfl
theorem q625 : (Jvm.Cond.classLink "java/util/Arrays" (2 : Nat) "java/lang/Object") ∈ lw_all := lw_g (lw_at lw_m3 40 rfl) rfl
theorem q626 : (Jvm.Cond.methodLink "java/util/Arrays" (304 : Nat) ({ cls := "java/lang/Math", name := "min", desc := "(II)I" } : Jvm.MethodName)) ∈ lw_all := lw_g (lw_at lw_m3 41 rfl) rfl
theorem q629 : (Jvm.Cond.methodLink "java/util/Arrays" (150 : Nat) ({ cls := "java/lang/System", name := "arraycopy", desc := "(Ljava/lang/Object;ILjava/lang/Object;II)V" } : Jvm.MethodName)) ∈ lw_all := lw_g (lw_at lw_m3 44 rfl) rfl
theorem q710 : (Jvm.Cond.static ({ cls := "java/util/Arrays", name := "copyOf", desc := "([BI)[B" } : Jvm.MethodName)) ∈ lw_all := lw_g (lw_at lw_m3 125 rfl) rfl
theorem q711 : (Jvm.Cond.code ({ cls := "java/util/Arrays", name := "copyOf", desc := "([BI)[B" } : Jvm.MethodName) prog_42_method_121_code (3 : Nat) (Option.some (Jvm.ClassFile.FieldType.array Jvm.ClassFile.FieldType.byte))) ∈ lw_all := lw_g (lw_at lw_m3 126 rfl) rfl
theorem q712 : (Jvm.Cond.methodLink "java/util/Arrays" (310 : Nat) ({ cls := "[B", name := "clone", desc := "()Ljava/lang/Object;" } : Jvm.MethodName)) ∈ lw_all := lw_g (lw_at lw_m3 127 rfl) rfl
theorem q718 : (Jvm.Cond.classLink "java/util/Arrays" (311 : Nat) "[B") ∈ lw_all := lw_g (lw_at lw_m3 133 rfl) rfl
theorem q839 : (Jvm.Cond.static ({ cls := "java/util/Arrays", name := "copyOfRange", desc := "([BII)[B" } : Jvm.MethodName)) ∈ lw_all := lw_g (lw_at lw_m4 14 rfl) rfl
theorem q840 : (Jvm.Cond.code ({ cls := "java/util/Arrays", name := "copyOfRange", desc := "([BII)[B" } : Jvm.MethodName) prog_42_method_132_code (3 : Nat) (Option.some (Jvm.ClassFile.FieldType.array Jvm.ClassFile.FieldType.byte))) ∈ lw_all := lw_g (lw_at lw_m4 15 rfl) rfl
theorem q841 : (Jvm.Cond.methodLink "java/util/Arrays" (339 : Nat) ({ cls := "java/util/Arrays", name := "copyOfRangeByte", desc := "([BII)[B" } : Jvm.MethodName)) ∈ lw_all := lw_g (lw_at lw_m4 16 rfl) rfl
theorem q842 : (Jvm.Cond.static ({ cls := "java/util/Arrays", name := "copyOfRangeByte", desc := "([BII)[B" } : Jvm.MethodName)) ∈ lw_all := lw_g (lw_at lw_m4 17 rfl) rfl
theorem q843 : (Jvm.Cond.code ({ cls := "java/util/Arrays", name := "copyOfRangeByte", desc := "([BII)[B" } : Jvm.MethodName) prog_42_method_133_code (5 : Nat) (Option.some (Jvm.ClassFile.FieldType.array Jvm.ClassFile.FieldType.byte))) ∈ lw_all := lw_g (lw_at lw_m4 18 rfl) rfl
theorem q844 : (Jvm.Cond.methodLink "java/util/Arrays" (343 : Nat) ({ cls := "java/util/Arrays", name := "checkLength", desc := "(II)V" } : Jvm.MethodName)) ∈ lw_all := lw_g (lw_at lw_m4 19 rfl) rfl
theorem q845 : (Jvm.Cond.static ({ cls := "java/util/Arrays", name := "checkLength", desc := "(II)V" } : Jvm.MethodName)) ∈ lw_all := lw_g (lw_at lw_m4 20 rfl) rfl
theorem q846 : (Jvm.Cond.code ({ cls := "java/util/Arrays", name := "checkLength", desc := "(II)V" } : Jvm.MethodName) prog_42_method_131_code (2 : Nat) (Option.none : Option Jvm.ClassFile.FieldType)) ∈ lw_all := lw_g (lw_at lw_m4 21 rfl) rfl
theorem q847 : (Jvm.Cond.classLink "java/util/Arrays" (43 : Nat) "java/lang/IllegalArgumentException") ∈ lw_all := lw_g (lw_at lw_m4 22 rfl) rfl
theorem q856 : (Jvm.Cond.classLink "java/util/Arrays" (45 : Nat) "java/lang/StringBuilder") ∈ lw_all := lw_g (lw_at lw_m4 31 rfl) rfl
theorem q857 : (Jvm.Cond.methodLink "java/util/Arrays" (47 : Nat) ({ cls := "java/lang/StringBuilder", name := "<init>", desc := "()V" } : Jvm.MethodName)) ∈ lw_all := lw_g (lw_at lw_m4 32 rfl) rfl
theorem q858 : (Jvm.Cond.methodLink "java/util/Arrays" (54 : Nat) ({ cls := "java/lang/StringBuilder", name := "append", desc := "(I)Ljava/lang/StringBuilder;" } : Jvm.MethodName)) ∈ lw_all := lw_g (lw_at lw_m4 33 rfl) rfl
theorem q859 : (Jvm.Cond.stringRef "java/util/Arrays" (337 : Nat) " > ") ∈ lw_tbl := lw_at lw_m4 34 rfl
theorem q860 : (Jvm.Cond.methodLink "java/util/Arrays" (50 : Nat) ({ cls := "java/lang/StringBuilder", name := "append", desc := "(Ljava/lang/String;)Ljava/lang/StringBuilder;" } : Jvm.MethodName)) ∈ lw_all := lw_g (lw_at lw_m4 35 rfl) rfl
theorem q861 : (Jvm.Cond.methodLink "java/util/Arrays" (61 : Nat) ({ cls := "java/lang/StringBuilder", name := "toString", desc := "()Ljava/lang/String;" } : Jvm.MethodName)) ∈ lw_all := lw_g (lw_at lw_m4 36 rfl) rfl
theorem q862 : (Jvm.Cond.methodLink "java/util/Arrays" (65 : Nat) ({ cls := "java/lang/IllegalArgumentException", name := "<init>", desc := "(Ljava/lang/String;)V" } : Jvm.MethodName)) ∈ lw_all := lw_g (lw_at lw_m4 37 rfl) rfl
theorem q915 : (Jvm.Cond.static ({ cls := "java/util/Arrays", name := "fill", desc := "([BIIB)V" } : Jvm.MethodName)) ∈ lw_all := lw_g (lw_at lw_m4 90 rfl) rfl
theorem q916 : (Jvm.Cond.code ({ cls := "java/util/Arrays", name := "fill", desc := "([BIIB)V" } : Jvm.MethodName) prog_42_method_110_code (5 : Nat) (Option.none : Option Jvm.ClassFile.FieldType)) ∈ lw_all := lw_g (lw_at lw_m4 91 rfl) rfl
theorem q917 : (Jvm.Cond.methodLink "java/util/Arrays" (13 : Nat) ({ cls := "java/util/Arrays", name := "rangeCheck", desc := "(III)V" } : Jvm.MethodName)) ∈ lw_all := lw_g (lw_at lw_m4 92 rfl) rfl
theorem q918 : (Jvm.Cond.static ({ cls := "java/util/Arrays", name := "rangeCheck", desc := "(III)V" } : Jvm.MethodName)) ∈ lw_all := lw_g (lw_at lw_m4 93 rfl) rfl
theorem q919 : (Jvm.Cond.code ({ cls := "java/util/Arrays", name := "rangeCheck", desc := "(III)V" } : Jvm.MethodName) prog_42_method_30_code (3 : Nat) (Option.none : Option Jvm.ClassFile.FieldType)) ∈ lw_all := lw_g (lw_at lw_m4 94 rfl) rfl
theorem q920 : (Jvm.Cond.stringRef "java/util/Arrays" (48 : Nat) "fromIndex(") ∈ lw_tbl := lw_at lw_m4 95 rfl
theorem q921 : (Jvm.Cond.stringRef "java/util/Arrays" (57 : Nat) ") > toIndex(") ∈ lw_tbl := lw_at lw_m4 96 rfl
theorem q922 : (Jvm.Cond.stringRef "java/util/Arrays" (59 : Nat) ")") ∈ lw_tbl := lw_at lw_m4 97 rfl
theorem q923 : (Jvm.Cond.classLink "java/util/Arrays" (68 : Nat) "java/lang/ArrayIndexOutOfBoundsException") ∈ lw_all := lw_g (lw_at lw_m4 98 rfl) rfl
theorem q934 : (Jvm.Cond.methodLink "java/util/Arrays" (70 : Nat) ({ cls := "java/lang/ArrayIndexOutOfBoundsException", name := "<init>", desc := "(I)V" } : Jvm.MethodName)) ∈ lw_all := lw_g (lw_at lw_m4 109 rfl) rfl
theorem q1138 : (Jvm.Cond.static ({ cls := "java/util/Arrays", name := "copyOf", desc := "([JI)[J" } : Jvm.MethodName)) ∈ lw_all := lw_g (lw_at lw_m5 73 rfl) rfl
theorem q1139 : (Jvm.Cond.code ({ cls := "java/util/Arrays", name := "copyOf", desc := "([JI)[J" } : Jvm.MethodName) prog_42_method_124_code (3 : Nat) (Option.some (Jvm.ClassFile.FieldType.array Jvm.ClassFile.FieldType.long))) ∈ lw_all := lw_g (lw_at lw_m5 74 rfl) rfl
theorem q1140 : (Jvm.Cond.methodLink "java/util/Arrays" (319 : Nat) ({ cls := "[J", name := "clone", desc := "()Ljava/lang/Object;" } : Jvm.MethodName)) ∈ lw_all := lw_g (lw_at lw_m5 75 rfl) rfl
theorem q1144 : (Jvm.Cond.classLink "java/util/Arrays" (320 : Nat) "[J") ∈ lw_all := lw_g (lw_at lw_m5 79 rfl) rfl
/-! java/lang/IllegalStateException -/
set_option maxRecDepth 100000
def RJ22 : String := "java/lang/IllegalStateException"
def TJ22 : u_T := fun k => match k with
  | 0 => ("java/lang/Throwable", "cause", "Ljava/lang/Throwable;", false)
  | 1 => ("java/lang/Throwable", "stackTrace", "[Ljava/lang/StackTraceElement;", false)
  | 2 => ("java/lang/Throwable", "suppressedExceptions", "Ljava/util/List;", false)
  | 3 => ("java/lang/Throwable", "detailMessage", "Ljava/lang/String;", false)
  | 4 => ("java/lang/Throwable", "backtrace", "Ljava/lang/Object;", false)
  | _ => ("java/lang/Throwable", "depth", "I", false)
def tyJ22 : Nat → FieldType := fun k => match k with
  | 0 => .object "java/lang/Throwable"
  | 1 => .array (.object "java/lang/StackTraceElement")
  | 2 => .object "java/util/List"
  | 3 => .object "java/lang/String"
  | 4 => .object "java/lang/Object"
  | _ => .int
abbrev wsJ220 : List Cond := u_ws RJ22 TJ22 6
theorem nmJ22 : ∀ a, a < 6 → ∀ b, b < 6 → a ≠ b → (TJ22 a).2.1 ≠ (TJ22 b).2.1 := by decide +kernel
theorem tyJ22_ok : ∀ k, k < 6 → parseFieldDescriptor (TJ22 k).2.2.1 = some (tyJ22 k) := by decide +kernel
abbrev cJ22_init : ByteArray := prog_22_method_1_code
def yJ22_init : MethodName := ⟨RJ22, "<init>", "()V"⟩
theorem dJ22_init_0 : decode cJ22_init 0 = .ok (.aload_n 0, 1) := by decide +kernel
theorem dJ22_init_1 : decode cJ22_init 1 = .ok (.invokespecial 1, 3) := by decide +kernel
theorem dJ22_init_4 : decode cJ22_init 4 = .ok (.return_, 1) := by decide +kernel
theorem q139 : (Jvm.Cond.initialized "java/lang/IllegalStateException") ∈ lw_all := lw_g (lw_at lw_m1 34 rfl) rfl
theorem q286 : (Jvm.Cond.selects "java/lang/IllegalStateException" ({ cls := "java/lang/Throwable", name := "fillInStackTrace", desc := "()Ljava/lang/Throwable;" } : Jvm.MethodName) ({ cls := "java/lang/Throwable", name := "fillInStackTrace", desc := "()Ljava/lang/Throwable;" } : Jvm.MethodName)) ∈ lw_all := lw_g (lw_at lw_m1 181 rfl) rfl
theorem q610 : (Jvm.Cond.selects "java/lang/IllegalStateException" ({ cls := "java/lang/Object", name := "getClass", desc := "()Ljava/lang/Class;" } : Jvm.MethodName) ({ cls := "java/lang/Object", name := "getClass", desc := "()Ljava/lang/Class;" } : Jvm.MethodName)) ∈ lw_all := lw_g (lw_at lw_m3 25 rfl) rfl
theorem q1396 : (Jvm.Cond.instantiable "java/lang/IllegalStateException" (6 : Nat)) ∈ lw_all := lw_g (lw_at lw_m6 91 rfl) rfl
theorem q1397 : (Jvm.Cond.castable "java/lang/IllegalStateException" "java/lang/IllegalStateException") ∈ lw_tbl := lw_at lw_m6 92 rfl
theorem q1398 : (Jvm.Cond.selects "java/lang/IllegalStateException" ({ cls := "java/lang/Throwable", name := "fillInStackTrace", desc := "(I)Ljava/lang/Throwable;" } : Jvm.MethodName) ({ cls := "java/lang/Throwable", name := "fillInStackTrace", desc := "(I)Ljava/lang/Throwable;" } : Jvm.MethodName)) ∈ lw_all := lw_g (lw_at lw_m6 93 rfl) rfl
theorem q1399 : (Jvm.Cond.lays "java/lang/IllegalStateException" "java/lang/Throwable" "cause" "Ljava/lang/Throwable;") ∈ lw_all := lw_g (lw_at lw_m6 94 rfl) rfl
theorem q1400 : (Jvm.Cond.lays "java/lang/IllegalStateException" "java/lang/Throwable" "stackTrace" "[Ljava/lang/StackTraceElement;") ∈ lw_all := lw_g (lw_at lw_m6 95 rfl) rfl
theorem q1401 : (Jvm.Cond.lays "java/lang/IllegalStateException" "java/lang/Throwable" "suppressedExceptions" "Ljava/util/List;") ∈ lw_all := lw_g (lw_at lw_m6 96 rfl) rfl
theorem q1402 : (Jvm.Cond.lays "java/lang/IllegalStateException" "java/lang/Throwable" "detailMessage" "Ljava/lang/String;") ∈ lw_all := lw_g (lw_at lw_m6 97 rfl) rfl
theorem q1403 : (Jvm.Cond.lays "java/lang/IllegalStateException" "java/lang/Throwable" "backtrace" "Ljava/lang/Object;") ∈ lw_all := lw_g (lw_at lw_m6 98 rfl) rfl
theorem q1405 : (Jvm.Cond.instanceMethod ({ cls := "java/lang/IllegalStateException", name := "<init>", desc := "()V" } : Jvm.MethodName)) ∈ lw_all := lw_g (lw_at lw_m6 100 rfl) rfl
theorem q1406 : (Jvm.Cond.code ({ cls := "java/lang/IllegalStateException", name := "<init>", desc := "()V" } : Jvm.MethodName) prog_22_method_1_code (1 : Nat) (Option.none : Option Jvm.ClassFile.FieldType)) ∈ lw_all := lw_g (lw_at lw_m6 101 rfl) rfl
theorem q1407 : (Jvm.Cond.methodLink "java/lang/IllegalStateException" (1 : Nat) ({ cls := "java/lang/RuntimeException", name := "<init>", desc := "()V" } : Jvm.MethodName)) ∈ lw_all := lw_g (lw_at lw_m6 102 rfl) rfl
theorem q1408 : (Jvm.Cond.lays "java/lang/IllegalStateException" "java/lang/Throwable" "depth" "I") ∈ lw_all := lw_g (lw_at lw_m6 103 rfl) rfl
theorem q1409 : (Jvm.Cond.superclass "java/lang/IllegalStateException" "java/lang/RuntimeException") ∈ lw_all := lw_g (lw_at lw_m6 104 rfl) rfl
theorem q2169 : (Jvm.Cond.castable "java/lang/IllegalStateException" "java/lang/Object") ∈ lw_tbl := lw_at lw_m9 144 rfl
theorem in_J22 : ∀ w ∈ wsJ220, w ∈ lw_all := lw_in wsJ220 [1399, 1400, 1401, 1402, 1403, 1408] (by decide +kernel) (by decide +kernel)
/-! java/lang/Double -/
set_option maxRecDepth 100000
def RJ25 : String := "java/lang/Double"
abbrev cJ25_doubleToLongBits : ByteArray := prog_19_method_23_code
def yJ25_doubleToLongBits : MethodName := ⟨RJ25, "doubleToLongBits", "(D)J"⟩
def dkwJ25_doubleToLongBits_0 : List UInt8 := [38, 184, 0, 122, 154, 0, 8, 38, 184, 0, 134, 173, 20, 0, 137, 173]
abbrev dktJ25_doubleToLongBits_0 : List UInt8 := dkwJ25_doubleToLongBits_0 ++ []
theorem dksJ25_doubleToLongBits_0 : cJ25_doubleToLongBits.data.toList.drop 0 = dktJ25_doubleToLongBits_0 := by decide +kernel
theorem dJ25_doubleToLongBits_0 : decode cJ25_doubleToLongBits 0 = .ok (.dload_n 0, 1) := dk_38 (dk_at dksJ25_doubleToLongBits_0 0 rfl rfl)
theorem dJ25_doubleToLongBits_1 : decode cJ25_doubleToLongBits 1 = .ok (.invokestatic 122, 3) := dk_184 0 122 (dk_at dksJ25_doubleToLongBits_0 1 rfl rfl)
theorem dJ25_doubleToLongBits_4 : decode cJ25_doubleToLongBits 4 = .ok (.ifCond .ne 8, 3) := dk_154 0 8 (dk_at dksJ25_doubleToLongBits_0 4 rfl rfl)
theorem dJ25_doubleToLongBits_7 : decode cJ25_doubleToLongBits 7 = .ok (.dload_n 0, 1) := dk_38 (dk_at dksJ25_doubleToLongBits_0 7 rfl rfl)
theorem dJ25_doubleToLongBits_8 : decode cJ25_doubleToLongBits 8 = .ok (.invokestatic 134, 3) := dk_184 0 134 (dk_at dksJ25_doubleToLongBits_0 8 rfl rfl)
theorem dJ25_doubleToLongBits_11 : decode cJ25_doubleToLongBits 11 = .ok (.lreturn, 1) := dk_173 (dk_at dksJ25_doubleToLongBits_0 11 rfl rfl)
theorem dJ25_doubleToLongBits_12 : decode cJ25_doubleToLongBits 12 = .ok (.ldc2_w 137, 3) := dk_20 0 137 (dk_at dksJ25_doubleToLongBits_0 12 rfl rfl)
theorem dJ25_doubleToLongBits_15 : decode cJ25_doubleToLongBits 15 = .ok (.lreturn, 1) := dk_173 (dk_at dksJ25_doubleToLongBits_0 15 rfl rfl)
abbrev cJ25_isNaN : ByteArray := prog_19_method_6_code
def yJ25_isNaN : MethodName := ⟨RJ25, "isNaN", "(D)Z"⟩
def dkwJ25_isNaN_0 : List UInt8 := [38, 38, 151, 153, 0, 7, 4, 167, 0, 4, 3, 172]
abbrev dktJ25_isNaN_0 : List UInt8 := dkwJ25_isNaN_0 ++ []
theorem dksJ25_isNaN_0 : cJ25_isNaN.data.toList.drop 0 = dktJ25_isNaN_0 := by decide +kernel
theorem dJ25_isNaN_0 : decode cJ25_isNaN 0 = .ok (.dload_n 0, 1) := dk_38 (dk_at dksJ25_isNaN_0 0 rfl rfl)
theorem dJ25_isNaN_1 : decode cJ25_isNaN 1 = .ok (.dload_n 0, 1) := dk_38 (dk_at dksJ25_isNaN_0 1 rfl rfl)
theorem dJ25_isNaN_2 : decode cJ25_isNaN 2 = .ok (.dcmp .l, 1) := dk_151 (dk_at dksJ25_isNaN_0 2 rfl rfl)
theorem dJ25_isNaN_3 : decode cJ25_isNaN 3 = .ok (.ifCond .eq 7, 3) := dk_153 0 7 (dk_at dksJ25_isNaN_0 3 rfl rfl)
theorem dJ25_isNaN_6 : decode cJ25_isNaN 6 = .ok (.iconst 1, 1) := dk_4 (dk_at dksJ25_isNaN_0 6 rfl rfl)
theorem dJ25_isNaN_7 : decode cJ25_isNaN 7 = .ok (.goto 4, 3) := dk_167 0 4 (dk_at dksJ25_isNaN_0 7 rfl rfl)
theorem dJ25_isNaN_10 : decode cJ25_isNaN 10 = .ok (.iconst 0, 1) := dk_3 (dk_at dksJ25_isNaN_0 10 rfl rfl)
theorem dJ25_isNaN_11 : decode cJ25_isNaN 11 = .ok (.ireturn, 1) := dk_172 (dk_at dksJ25_isNaN_0 11 rfl rfl)
theorem q143 : (Jvm.Cond.initialized "java/lang/Double") ∈ lw_all := lw_g (lw_at lw_m1 38 rfl) rfl
theorem q1339 : (Jvm.Cond.static ({ cls := "java/lang/Double", name := "doubleToLongBits", desc := "(D)J" } : Jvm.MethodName)) ∈ lw_all := lw_g (lw_at lw_m6 34 rfl) rfl
theorem q1340 : (Jvm.Cond.code ({ cls := "java/lang/Double", name := "doubleToLongBits", desc := "(D)J" } : Jvm.MethodName) prog_19_method_23_code (2 : Nat) (Option.some Jvm.ClassFile.FieldType.long)) ∈ lw_all := lw_g (lw_at lw_m6 35 rfl) rfl
theorem q1341 : (Jvm.Cond.methodLink "java/lang/Double" (122 : Nat) ({ cls := "java/lang/Double", name := "isNaN", desc := "(D)Z" } : Jvm.MethodName)) ∈ lw_all := lw_g (lw_at lw_m6 36 rfl) rfl
theorem q1342 : (Jvm.Cond.static ({ cls := "java/lang/Double", name := "isNaN", desc := "(D)Z" } : Jvm.MethodName)) ∈ lw_all := lw_g (lw_at lw_m6 37 rfl) rfl
theorem q1343 : (Jvm.Cond.code ({ cls := "java/lang/Double", name := "isNaN", desc := "(D)Z" } : Jvm.MethodName) prog_19_method_6_code (2 : Nat) (Option.some Jvm.ClassFile.FieldType.boolean)) ∈ lw_all := lw_g (lw_at lw_m6 38 rfl) rfl
theorem q1344 : (Jvm.Cond.methodLink "java/lang/Double" (134 : Nat) ({ cls := "java/lang/Double", name := "doubleToRawLongBits", desc := "(D)J" } : Jvm.MethodName)) ∈ lw_all := lw_g (lw_at lw_m6 39 rfl) rfl
theorem q1345 : (Jvm.Cond.static ({ cls := "java/lang/Double", name := "doubleToRawLongBits", desc := "(D)J" } : Jvm.MethodName)) ∈ lw_all := lw_g (lw_at lw_m6 40 rfl) rfl
theorem q1346 : (Jvm.Cond.native ({ cls := "java/lang/Double", name := "doubleToRawLongBits", desc := "(D)J" } : Jvm.MethodName)) ∈ lw_all := lw_g (lw_at lw_m6 41 rfl) rfl
theorem q1347 : (Jvm.Cond.constantLong "java/lang/Double" (137 : Nat) (9221120237041090560 : Int64)) ∈ lw_all := lw_g (lw_at lw_m6 42 rfl) rfl
/-! java/lang/Object -/
set_option maxRecDepth 100000
def RJ26 : String := "java/lang/Object"
abbrev cJ26_init : ByteArray := object_method_1_code
def yJ26_init : MethodName := ⟨RJ26, "<init>", "()V"⟩
theorem dJ26_init_0 : decode cJ26_init 0 = .ok (.return_, 1) := by decide +kernel
theorem q150 : (Jvm.Cond.instanceMethod ({ cls := "java/lang/Object", name := "<init>", desc := "()V" } : Jvm.MethodName)) ∈ lw_all := lw_g (lw_at lw_m1 45 rfl) rfl
theorem q151 : (Jvm.Cond.code ({ cls := "java/lang/Object", name := "<init>", desc := "()V" } : Jvm.MethodName) object_method_1_code (1 : Nat) (Option.none : Option Jvm.ClassFile.FieldType)) ∈ lw_all := lw_g (lw_at lw_m1 46 rfl) rfl
theorem q596 : (Jvm.Cond.instanceMethod ({ cls := "java/lang/Object", name := "getClass", desc := "()Ljava/lang/Class;" } : Jvm.MethodName)) ∈ lw_all := lw_g (lw_at lw_m3 11 rfl) rfl
theorem q597 : (Jvm.Cond.sameMethod "java/lang/Object" "java/lang/Object" "getClass" "()Ljava/lang/Class;") ∈ lw_all := lw_g (lw_at lw_m3 12 rfl) rfl
theorem q619 : (Jvm.Cond.native ({ cls := "java/lang/Object", name := "getClass", desc := "()Ljava/lang/Class;" } : Jvm.MethodName)) ∈ lw_all := lw_g (lw_at lw_m3 34 rfl) rfl
theorem q714 : (Jvm.Cond.native ({ cls := "java/lang/Object", name := "clone", desc := "()Ljava/lang/Object;" } : Jvm.MethodName)) ∈ lw_all := lw_g (lw_at lw_m3 129 rfl) rfl
theorem q715 : (Jvm.Cond.instanceMethod ({ cls := "java/lang/Object", name := "clone", desc := "()Ljava/lang/Object;" } : Jvm.MethodName)) ∈ lw_all := lw_g (lw_at lw_m3 130 rfl) rfl
theorem q2149 : (Jvm.Cond.initialized "java/lang/Object") ∈ lw_all := lw_g (lw_at lw_m9 124 rfl) rfl
theorem q2176 : (Jvm.Cond.declares ({ cls := "java/lang/Object", name := "getClass", desc := "()Ljava/lang/Class;" } : Jvm.MethodName)) ∈ lw_tbl := lw_at lw_m9 151 rfl
