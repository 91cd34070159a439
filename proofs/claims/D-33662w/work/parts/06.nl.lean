/-! CrumbPicturesLaw -/
set_option maxRecDepth 100000
def RX0 : String := "CrumbPicturesLaw"
abbrev cX0_setShade : ByteArray := method_3_code
def yX0_setShade : MethodName := ⟨RX0, "setShade", "(LCrumbPictures;III[J)I"⟩
def dkwX0_setShade_1 : List UInt8 := [172]
abbrev dktX0_setShade_1 : List UInt8 := dkwX0_setShade_1 ++ []
def dkwX0_setShade_0 : List UInt8 := [25, 4, 3, 42, 27, 28, 29, 182, 0, 7, 133, 80, 167, 0, 11, 58, 5, 4, 172, 58, 5, 5, 172, 3]
abbrev dktX0_setShade_0 : List UInt8 := dkwX0_setShade_0 ++ dktX0_setShade_1
theorem dksX0_setShade_0 : cX0_setShade.data.toList.drop 0 = dktX0_setShade_0 := by decide +kernel
theorem dksX0_setShade_1 : cX0_setShade.data.toList.drop 24 = dktX0_setShade_1 := dk_seg dksX0_setShade_0 24 rfl rfl
theorem dX0_setShade_0 : decode cX0_setShade 0 = .ok (.aload 4, 2) := dk_25 4 (dk_at dksX0_setShade_0 0 rfl rfl)
theorem dX0_setShade_2 : decode cX0_setShade 2 = .ok (.iconst 0, 1) := dk_3 (dk_at dksX0_setShade_0 2 rfl rfl)
theorem dX0_setShade_3 : decode cX0_setShade 3 = .ok (.aload_n 0, 1) := dk_42 (dk_at dksX0_setShade_0 3 rfl rfl)
theorem dX0_setShade_4 : decode cX0_setShade 4 = .ok (.iload_n 1, 1) := dk_27 (dk_at dksX0_setShade_0 4 rfl rfl)
theorem dX0_setShade_5 : decode cX0_setShade 5 = .ok (.iload_n 2, 1) := dk_28 (dk_at dksX0_setShade_0 5 rfl rfl)
theorem dX0_setShade_6 : decode cX0_setShade 6 = .ok (.iload_n 3, 1) := dk_29 (dk_at dksX0_setShade_0 6 rfl rfl)
theorem dX0_setShade_7 : decode cX0_setShade 7 = .ok (.invokevirtual 7, 3) := dk_182 0 7 (dk_at dksX0_setShade_0 7 rfl rfl)
theorem dX0_setShade_10 : decode cX0_setShade 10 = .ok (.i2l, 1) := dk_133 (dk_at dksX0_setShade_0 10 rfl rfl)
theorem dX0_setShade_11 : decode cX0_setShade 11 = .ok (.lastore, 1) := dk_80 (dk_at dksX0_setShade_0 11 rfl rfl)
theorem dX0_setShade_12 : decode cX0_setShade 12 = .ok (.goto 11, 3) := dk_167 0 11 (dk_at dksX0_setShade_0 12 rfl rfl)
theorem dX0_setShade_15 : decode cX0_setShade 15 = .ok (.astore 5, 2) := dk_58 5 (dk_at dksX0_setShade_0 15 rfl rfl)
theorem dX0_setShade_17 : decode cX0_setShade 17 = .ok (.iconst 1, 1) := dk_4 (dk_at dksX0_setShade_0 17 rfl rfl)
theorem dX0_setShade_18 : decode cX0_setShade 18 = .ok (.ireturn, 1) := dk_172 (dk_at dksX0_setShade_0 18 rfl rfl)
theorem dX0_setShade_19 : decode cX0_setShade 19 = .ok (.astore 5, 2) := dk_58 5 (dk_at dksX0_setShade_0 19 rfl rfl)
theorem dX0_setShade_21 : decode cX0_setShade 21 = .ok (.iconst 2, 1) := dk_5 (dk_at dksX0_setShade_0 21 rfl rfl)
theorem dX0_setShade_22 : decode cX0_setShade 22 = .ok (.ireturn, 1) := dk_172 (dk_at dksX0_setShade_0 22 rfl rfl)
theorem dX0_setShade_23 : decode cX0_setShade 23 = .ok (.iconst 0, 1) := dk_3 (dk_at dksX0_setShade_0 23 rfl rfl)
theorem dX0_setShade_24 : decode cX0_setShade 24 = .ok (.ireturn, 1) := dk_172 (dk_at dksX0_setShade_1 0 rfl rfl)
abbrev cX0_fillRow : ByteArray := method_4_code
def yX0_fillRow : MethodName := ⟨RX0, "fillRow", "(LCrumbPictures;III[J)I"⟩
def dkwX0_fillRow_1 : List UInt8 := [58, 5, 6, 172, 3, 172]
abbrev dktX0_fillRow_1 : List UInt8 := dkwX0_fillRow_1 ++ []
def dkwX0_fillRow_0 : List UInt8 := [25, 4, 3, 42, 27, 28, 29, 182, 0, 17, 133, 80, 167, 0, 15, 58, 5, 4, 172, 58, 5, 5, 172]
abbrev dktX0_fillRow_0 : List UInt8 := dkwX0_fillRow_0 ++ dktX0_fillRow_1
theorem dksX0_fillRow_0 : cX0_fillRow.data.toList.drop 0 = dktX0_fillRow_0 := by decide +kernel
theorem dksX0_fillRow_1 : cX0_fillRow.data.toList.drop 23 = dktX0_fillRow_1 := dk_seg dksX0_fillRow_0 23 rfl rfl
theorem dX0_fillRow_0 : decode cX0_fillRow 0 = .ok (.aload 4, 2) := dk_25 4 (dk_at dksX0_fillRow_0 0 rfl rfl)
theorem dX0_fillRow_2 : decode cX0_fillRow 2 = .ok (.iconst 0, 1) := dk_3 (dk_at dksX0_fillRow_0 2 rfl rfl)
theorem dX0_fillRow_3 : decode cX0_fillRow 3 = .ok (.aload_n 0, 1) := dk_42 (dk_at dksX0_fillRow_0 3 rfl rfl)
theorem dX0_fillRow_4 : decode cX0_fillRow 4 = .ok (.iload_n 1, 1) := dk_27 (dk_at dksX0_fillRow_0 4 rfl rfl)
theorem dX0_fillRow_5 : decode cX0_fillRow 5 = .ok (.iload_n 2, 1) := dk_28 (dk_at dksX0_fillRow_0 5 rfl rfl)
theorem dX0_fillRow_6 : decode cX0_fillRow 6 = .ok (.iload_n 3, 1) := dk_29 (dk_at dksX0_fillRow_0 6 rfl rfl)
theorem dX0_fillRow_7 : decode cX0_fillRow 7 = .ok (.invokevirtual 17, 3) := dk_182 0 17 (dk_at dksX0_fillRow_0 7 rfl rfl)
theorem dX0_fillRow_10 : decode cX0_fillRow 10 = .ok (.i2l, 1) := dk_133 (dk_at dksX0_fillRow_0 10 rfl rfl)
theorem dX0_fillRow_11 : decode cX0_fillRow 11 = .ok (.lastore, 1) := dk_80 (dk_at dksX0_fillRow_0 11 rfl rfl)
theorem dX0_fillRow_12 : decode cX0_fillRow 12 = .ok (.goto 15, 3) := dk_167 0 15 (dk_at dksX0_fillRow_0 12 rfl rfl)
theorem dX0_fillRow_15 : decode cX0_fillRow 15 = .ok (.astore 5, 2) := dk_58 5 (dk_at dksX0_fillRow_0 15 rfl rfl)
theorem dX0_fillRow_17 : decode cX0_fillRow 17 = .ok (.iconst 1, 1) := dk_4 (dk_at dksX0_fillRow_0 17 rfl rfl)
theorem dX0_fillRow_18 : decode cX0_fillRow 18 = .ok (.ireturn, 1) := dk_172 (dk_at dksX0_fillRow_0 18 rfl rfl)
theorem dX0_fillRow_19 : decode cX0_fillRow 19 = .ok (.astore 5, 2) := dk_58 5 (dk_at dksX0_fillRow_0 19 rfl rfl)
theorem dX0_fillRow_21 : decode cX0_fillRow 21 = .ok (.iconst 2, 1) := dk_5 (dk_at dksX0_fillRow_0 21 rfl rfl)
theorem dX0_fillRow_22 : decode cX0_fillRow 22 = .ok (.ireturn, 1) := dk_172 (dk_at dksX0_fillRow_0 22 rfl rfl)
theorem dX0_fillRow_23 : decode cX0_fillRow 23 = .ok (.astore 5, 2) := dk_58 5 (dk_at dksX0_fillRow_1 0 rfl rfl)
theorem dX0_fillRow_25 : decode cX0_fillRow 25 = .ok (.iconst 3, 1) := dk_6 (dk_at dksX0_fillRow_1 2 rfl rfl)
theorem dX0_fillRow_26 : decode cX0_fillRow 26 = .ok (.ireturn, 1) := dk_172 (dk_at dksX0_fillRow_1 3 rfl rfl)
theorem dX0_fillRow_27 : decode cX0_fillRow 27 = .ok (.iconst 0, 1) := dk_3 (dk_at dksX0_fillRow_1 4 rfl rfl)
theorem dX0_fillRow_28 : decode cX0_fillRow 28 = .ok (.ireturn, 1) := dk_172 (dk_at dksX0_fillRow_1 5 rfl rfl)
abbrev cX0_setPart : ByteArray := method_5_code
def yX0_setPart : MethodName := ⟨RX0, "setPart", "(LCrumbPictures;III[J)I"⟩
def dkwX0_setPart_1 : List UInt8 := [58, 5, 6, 172, 3, 172]
abbrev dktX0_setPart_1 : List UInt8 := dkwX0_setPart_1 ++ []
def dkwX0_setPart_0 : List UInt8 := [25, 4, 3, 42, 27, 28, 29, 182, 0, 22, 133, 80, 167, 0, 15, 58, 5, 4, 172, 58, 5, 5, 172]
abbrev dktX0_setPart_0 : List UInt8 := dkwX0_setPart_0 ++ dktX0_setPart_1
theorem dksX0_setPart_0 : cX0_setPart.data.toList.drop 0 = dktX0_setPart_0 := by decide +kernel
theorem dksX0_setPart_1 : cX0_setPart.data.toList.drop 23 = dktX0_setPart_1 := dk_seg dksX0_setPart_0 23 rfl rfl
theorem dX0_setPart_0 : decode cX0_setPart 0 = .ok (.aload 4, 2) := dk_25 4 (dk_at dksX0_setPart_0 0 rfl rfl)
theorem dX0_setPart_2 : decode cX0_setPart 2 = .ok (.iconst 0, 1) := dk_3 (dk_at dksX0_setPart_0 2 rfl rfl)
theorem dX0_setPart_3 : decode cX0_setPart 3 = .ok (.aload_n 0, 1) := dk_42 (dk_at dksX0_setPart_0 3 rfl rfl)
theorem dX0_setPart_4 : decode cX0_setPart 4 = .ok (.iload_n 1, 1) := dk_27 (dk_at dksX0_setPart_0 4 rfl rfl)
theorem dX0_setPart_5 : decode cX0_setPart 5 = .ok (.iload_n 2, 1) := dk_28 (dk_at dksX0_setPart_0 5 rfl rfl)
theorem dX0_setPart_6 : decode cX0_setPart 6 = .ok (.iload_n 3, 1) := dk_29 (dk_at dksX0_setPart_0 6 rfl rfl)
theorem dX0_setPart_7 : decode cX0_setPart 7 = .ok (.invokevirtual 22, 3) := dk_182 0 22 (dk_at dksX0_setPart_0 7 rfl rfl)
theorem dX0_setPart_10 : decode cX0_setPart 10 = .ok (.i2l, 1) := dk_133 (dk_at dksX0_setPart_0 10 rfl rfl)
theorem dX0_setPart_11 : decode cX0_setPart 11 = .ok (.lastore, 1) := dk_80 (dk_at dksX0_setPart_0 11 rfl rfl)
theorem dX0_setPart_12 : decode cX0_setPart 12 = .ok (.goto 15, 3) := dk_167 0 15 (dk_at dksX0_setPart_0 12 rfl rfl)
theorem dX0_setPart_15 : decode cX0_setPart 15 = .ok (.astore 5, 2) := dk_58 5 (dk_at dksX0_setPart_0 15 rfl rfl)
theorem dX0_setPart_17 : decode cX0_setPart 17 = .ok (.iconst 1, 1) := dk_4 (dk_at dksX0_setPart_0 17 rfl rfl)
theorem dX0_setPart_18 : decode cX0_setPart 18 = .ok (.ireturn, 1) := dk_172 (dk_at dksX0_setPart_0 18 rfl rfl)
theorem dX0_setPart_19 : decode cX0_setPart 19 = .ok (.astore 5, 2) := dk_58 5 (dk_at dksX0_setPart_0 19 rfl rfl)
theorem dX0_setPart_21 : decode cX0_setPart 21 = .ok (.iconst 2, 1) := dk_5 (dk_at dksX0_setPart_0 21 rfl rfl)
theorem dX0_setPart_22 : decode cX0_setPart 22 = .ok (.ireturn, 1) := dk_172 (dk_at dksX0_setPart_0 22 rfl rfl)
theorem dX0_setPart_23 : decode cX0_setPart 23 = .ok (.astore 5, 2) := dk_58 5 (dk_at dksX0_setPart_1 0 rfl rfl)
theorem dX0_setPart_25 : decode cX0_setPart 25 = .ok (.iconst 3, 1) := dk_6 (dk_at dksX0_setPart_1 2 rfl rfl)
theorem dX0_setPart_26 : decode cX0_setPart 26 = .ok (.ireturn, 1) := dk_172 (dk_at dksX0_setPart_1 3 rfl rfl)
theorem dX0_setPart_27 : decode cX0_setPart 27 = .ok (.iconst 0, 1) := dk_3 (dk_at dksX0_setPart_1 4 rfl rfl)
theorem dX0_setPart_28 : decode cX0_setPart 28 = .ok (.ireturn, 1) := dk_172 (dk_at dksX0_setPart_1 5 rfl rfl)
abbrev cX0_dropCrumbs : ByteArray := method_6_code
def yX0_dropCrumbs : MethodName := ⟨RX0, "dropCrumbs", "(LCrumbPictures;I[J)I"⟩
def dkwX0_dropCrumbs_0 : List UInt8 := [44, 3, 42, 27, 182, 0, 25, 133, 80, 167, 0, 9, 78, 4, 172, 78, 5, 172, 3, 172]
abbrev dktX0_dropCrumbs_0 : List UInt8 := dkwX0_dropCrumbs_0 ++ []
theorem dksX0_dropCrumbs_0 : cX0_dropCrumbs.data.toList.drop 0 = dktX0_dropCrumbs_0 := by decide +kernel
theorem dX0_dropCrumbs_0 : decode cX0_dropCrumbs 0 = .ok (.aload_n 2, 1) := dk_44 (dk_at dksX0_dropCrumbs_0 0 rfl rfl)
theorem dX0_dropCrumbs_1 : decode cX0_dropCrumbs 1 = .ok (.iconst 0, 1) := dk_3 (dk_at dksX0_dropCrumbs_0 1 rfl rfl)
theorem dX0_dropCrumbs_2 : decode cX0_dropCrumbs 2 = .ok (.aload_n 0, 1) := dk_42 (dk_at dksX0_dropCrumbs_0 2 rfl rfl)
theorem dX0_dropCrumbs_3 : decode cX0_dropCrumbs 3 = .ok (.iload_n 1, 1) := dk_27 (dk_at dksX0_dropCrumbs_0 3 rfl rfl)
theorem dX0_dropCrumbs_4 : decode cX0_dropCrumbs 4 = .ok (.invokevirtual 25, 3) := dk_182 0 25 (dk_at dksX0_dropCrumbs_0 4 rfl rfl)
theorem dX0_dropCrumbs_7 : decode cX0_dropCrumbs 7 = .ok (.i2l, 1) := dk_133 (dk_at dksX0_dropCrumbs_0 7 rfl rfl)
theorem dX0_dropCrumbs_8 : decode cX0_dropCrumbs 8 = .ok (.lastore, 1) := dk_80 (dk_at dksX0_dropCrumbs_0 8 rfl rfl)
theorem dX0_dropCrumbs_9 : decode cX0_dropCrumbs 9 = .ok (.goto 9, 3) := dk_167 0 9 (dk_at dksX0_dropCrumbs_0 9 rfl rfl)
theorem dX0_dropCrumbs_12 : decode cX0_dropCrumbs 12 = .ok (.astore_n 3, 1) := dk_78 (dk_at dksX0_dropCrumbs_0 12 rfl rfl)
theorem dX0_dropCrumbs_13 : decode cX0_dropCrumbs 13 = .ok (.iconst 1, 1) := dk_4 (dk_at dksX0_dropCrumbs_0 13 rfl rfl)
theorem dX0_dropCrumbs_14 : decode cX0_dropCrumbs 14 = .ok (.ireturn, 1) := dk_172 (dk_at dksX0_dropCrumbs_0 14 rfl rfl)
theorem dX0_dropCrumbs_15 : decode cX0_dropCrumbs 15 = .ok (.astore_n 3, 1) := dk_78 (dk_at dksX0_dropCrumbs_0 15 rfl rfl)
theorem dX0_dropCrumbs_16 : decode cX0_dropCrumbs 16 = .ok (.iconst 2, 1) := dk_5 (dk_at dksX0_dropCrumbs_0 16 rfl rfl)
theorem dX0_dropCrumbs_17 : decode cX0_dropCrumbs 17 = .ok (.ireturn, 1) := dk_172 (dk_at dksX0_dropCrumbs_0 17 rfl rfl)
theorem dX0_dropCrumbs_18 : decode cX0_dropCrumbs 18 = .ok (.iconst 0, 1) := dk_3 (dk_at dksX0_dropCrumbs_0 18 rfl rfl)
theorem dX0_dropCrumbs_19 : decode cX0_dropCrumbs 19 = .ok (.ireturn, 1) := dk_172 (dk_at dksX0_dropCrumbs_0 19 rfl rfl)
abbrev cX0_setLevels : ByteArray := method_7_code
def yX0_setLevels : MethodName := ⟨RX0, "setLevels", "(LCrumbPictures;I[J)I"⟩
def dkwX0_setLevels_0 : List UInt8 := [44, 3, 42, 27, 182, 0, 29, 133, 80, 167, 0, 6, 78, 4, 172, 3, 172]
abbrev dktX0_setLevels_0 : List UInt8 := dkwX0_setLevels_0 ++ []
theorem dksX0_setLevels_0 : cX0_setLevels.data.toList.drop 0 = dktX0_setLevels_0 := by decide +kernel
theorem dX0_setLevels_0 : decode cX0_setLevels 0 = .ok (.aload_n 2, 1) := dk_44 (dk_at dksX0_setLevels_0 0 rfl rfl)
theorem dX0_setLevels_1 : decode cX0_setLevels 1 = .ok (.iconst 0, 1) := dk_3 (dk_at dksX0_setLevels_0 1 rfl rfl)
theorem dX0_setLevels_2 : decode cX0_setLevels 2 = .ok (.aload_n 0, 1) := dk_42 (dk_at dksX0_setLevels_0 2 rfl rfl)
theorem dX0_setLevels_3 : decode cX0_setLevels 3 = .ok (.iload_n 1, 1) := dk_27 (dk_at dksX0_setLevels_0 3 rfl rfl)
theorem dX0_setLevels_4 : decode cX0_setLevels 4 = .ok (.invokevirtual 29, 3) := dk_182 0 29 (dk_at dksX0_setLevels_0 4 rfl rfl)
theorem dX0_setLevels_7 : decode cX0_setLevels 7 = .ok (.i2l, 1) := dk_133 (dk_at dksX0_setLevels_0 7 rfl rfl)
theorem dX0_setLevels_8 : decode cX0_setLevels 8 = .ok (.lastore, 1) := dk_80 (dk_at dksX0_setLevels_0 8 rfl rfl)
theorem dX0_setLevels_9 : decode cX0_setLevels 9 = .ok (.goto 6, 3) := dk_167 0 6 (dk_at dksX0_setLevels_0 9 rfl rfl)
theorem dX0_setLevels_12 : decode cX0_setLevels 12 = .ok (.astore_n 3, 1) := dk_78 (dk_at dksX0_setLevels_0 12 rfl rfl)
theorem dX0_setLevels_13 : decode cX0_setLevels 13 = .ok (.iconst 1, 1) := dk_4 (dk_at dksX0_setLevels_0 13 rfl rfl)
theorem dX0_setLevels_14 : decode cX0_setLevels 14 = .ok (.ireturn, 1) := dk_172 (dk_at dksX0_setLevels_0 14 rfl rfl)
theorem dX0_setLevels_15 : decode cX0_setLevels 15 = .ok (.iconst 0, 1) := dk_3 (dk_at dksX0_setLevels_0 15 rfl rfl)
theorem dX0_setLevels_16 : decode cX0_setLevels 16 = .ok (.ireturn, 1) := dk_172 (dk_at dksX0_setLevels_0 16 rfl rfl)
abbrev cX0_append : ByteArray := method_8_code
def yX0_append : MethodName := ⟨RX0, "append", "(LCrumbPictures;I[J)I"⟩
def dkwX0_append_0 : List UInt8 := [44, 3, 42, 27, 182, 0, 32, 133, 80, 167, 0, 9, 78, 4, 172, 78, 5, 172, 3, 172]
abbrev dktX0_append_0 : List UInt8 := dkwX0_append_0 ++ []
theorem dksX0_append_0 : cX0_append.data.toList.drop 0 = dktX0_append_0 := by decide +kernel
theorem dX0_append_0 : decode cX0_append 0 = .ok (.aload_n 2, 1) := dk_44 (dk_at dksX0_append_0 0 rfl rfl)
theorem dX0_append_1 : decode cX0_append 1 = .ok (.iconst 0, 1) := dk_3 (dk_at dksX0_append_0 1 rfl rfl)
theorem dX0_append_2 : decode cX0_append 2 = .ok (.aload_n 0, 1) := dk_42 (dk_at dksX0_append_0 2 rfl rfl)
theorem dX0_append_3 : decode cX0_append 3 = .ok (.iload_n 1, 1) := dk_27 (dk_at dksX0_append_0 3 rfl rfl)
theorem dX0_append_4 : decode cX0_append 4 = .ok (.invokevirtual 32, 3) := dk_182 0 32 (dk_at dksX0_append_0 4 rfl rfl)
theorem dX0_append_7 : decode cX0_append 7 = .ok (.i2l, 1) := dk_133 (dk_at dksX0_append_0 7 rfl rfl)
theorem dX0_append_8 : decode cX0_append 8 = .ok (.lastore, 1) := dk_80 (dk_at dksX0_append_0 8 rfl rfl)
theorem dX0_append_9 : decode cX0_append 9 = .ok (.goto 9, 3) := dk_167 0 9 (dk_at dksX0_append_0 9 rfl rfl)
theorem dX0_append_12 : decode cX0_append 12 = .ok (.astore_n 3, 1) := dk_78 (dk_at dksX0_append_0 12 rfl rfl)
theorem dX0_append_13 : decode cX0_append 13 = .ok (.iconst 1, 1) := dk_4 (dk_at dksX0_append_0 13 rfl rfl)
theorem dX0_append_14 : decode cX0_append 14 = .ok (.ireturn, 1) := dk_172 (dk_at dksX0_append_0 14 rfl rfl)
theorem dX0_append_15 : decode cX0_append 15 = .ok (.astore_n 3, 1) := dk_78 (dk_at dksX0_append_0 15 rfl rfl)
theorem dX0_append_16 : decode cX0_append 16 = .ok (.iconst 2, 1) := dk_5 (dk_at dksX0_append_0 16 rfl rfl)
theorem dX0_append_17 : decode cX0_append 17 = .ok (.ireturn, 1) := dk_172 (dk_at dksX0_append_0 17 rfl rfl)
theorem dX0_append_18 : decode cX0_append 18 = .ok (.iconst 0, 1) := dk_3 (dk_at dksX0_append_0 18 rfl rfl)
theorem dX0_append_19 : decode cX0_append 19 = .ok (.ireturn, 1) := dk_172 (dk_at dksX0_append_0 19 rfl rfl)
abbrev cX0_work : ByteArray := method_9_code
def yX0_work : MethodName := ⟨RX0, "work", "(LCrumbPictures;[J)I"⟩
def dkwX0_work_0 : List UInt8 := [43, 3, 42, 182, 0, 35, 133, 80, 167, 0, 6, 77, 4, 172, 3, 172]
abbrev dktX0_work_0 : List UInt8 := dkwX0_work_0 ++ []
theorem dksX0_work_0 : cX0_work.data.toList.drop 0 = dktX0_work_0 := by decide +kernel
theorem dX0_work_0 : decode cX0_work 0 = .ok (.aload_n 1, 1) := dk_43 (dk_at dksX0_work_0 0 rfl rfl)
theorem dX0_work_1 : decode cX0_work 1 = .ok (.iconst 0, 1) := dk_3 (dk_at dksX0_work_0 1 rfl rfl)
theorem dX0_work_2 : decode cX0_work 2 = .ok (.aload_n 0, 1) := dk_42 (dk_at dksX0_work_0 2 rfl rfl)
theorem dX0_work_3 : decode cX0_work 3 = .ok (.invokevirtual 35, 3) := dk_182 0 35 (dk_at dksX0_work_0 3 rfl rfl)
theorem dX0_work_6 : decode cX0_work 6 = .ok (.i2l, 1) := dk_133 (dk_at dksX0_work_0 6 rfl rfl)
theorem dX0_work_7 : decode cX0_work 7 = .ok (.lastore, 1) := dk_80 (dk_at dksX0_work_0 7 rfl rfl)
theorem dX0_work_8 : decode cX0_work 8 = .ok (.goto 6, 3) := dk_167 0 6 (dk_at dksX0_work_0 8 rfl rfl)
theorem dX0_work_11 : decode cX0_work 11 = .ok (.astore_n 2, 1) := dk_77 (dk_at dksX0_work_0 11 rfl rfl)
theorem dX0_work_12 : decode cX0_work 12 = .ok (.iconst 1, 1) := dk_4 (dk_at dksX0_work_0 12 rfl rfl)
theorem dX0_work_13 : decode cX0_work 13 = .ok (.ireturn, 1) := dk_172 (dk_at dksX0_work_0 13 rfl rfl)
theorem dX0_work_14 : decode cX0_work 14 = .ok (.iconst 0, 1) := dk_3 (dk_at dksX0_work_0 14 rfl rfl)
theorem dX0_work_15 : decode cX0_work 15 = .ok (.ireturn, 1) := dk_172 (dk_at dksX0_work_0 15 rfl rfl)
abbrev cX0_stoppedPart : ByteArray := method_10_code
def yX0_stoppedPart : MethodName := ⟨RX0, "stoppedPart", "(LCrumbPictures;[J)I"⟩
def dkwX0_stoppedPart_0 : List UInt8 := [43, 3, 42, 182, 0, 39, 133, 80, 167, 0, 6, 77, 4, 172, 3, 172]
abbrev dktX0_stoppedPart_0 : List UInt8 := dkwX0_stoppedPart_0 ++ []
theorem dksX0_stoppedPart_0 : cX0_stoppedPart.data.toList.drop 0 = dktX0_stoppedPart_0 := by decide +kernel
theorem dX0_stoppedPart_0 : decode cX0_stoppedPart 0 = .ok (.aload_n 1, 1) := dk_43 (dk_at dksX0_stoppedPart_0 0 rfl rfl)
theorem dX0_stoppedPart_1 : decode cX0_stoppedPart 1 = .ok (.iconst 0, 1) := dk_3 (dk_at dksX0_stoppedPart_0 1 rfl rfl)
theorem dX0_stoppedPart_2 : decode cX0_stoppedPart 2 = .ok (.aload_n 0, 1) := dk_42 (dk_at dksX0_stoppedPart_0 2 rfl rfl)
theorem dX0_stoppedPart_3 : decode cX0_stoppedPart 3 = .ok (.invokevirtual 39, 3) := dk_182 0 39 (dk_at dksX0_stoppedPart_0 3 rfl rfl)
theorem dX0_stoppedPart_6 : decode cX0_stoppedPart 6 = .ok (.i2l, 1) := dk_133 (dk_at dksX0_stoppedPart_0 6 rfl rfl)
theorem dX0_stoppedPart_7 : decode cX0_stoppedPart 7 = .ok (.lastore, 1) := dk_80 (dk_at dksX0_stoppedPart_0 7 rfl rfl)
theorem dX0_stoppedPart_8 : decode cX0_stoppedPart 8 = .ok (.goto 6, 3) := dk_167 0 6 (dk_at dksX0_stoppedPart_0 8 rfl rfl)
theorem dX0_stoppedPart_11 : decode cX0_stoppedPart 11 = .ok (.astore_n 2, 1) := dk_77 (dk_at dksX0_stoppedPart_0 11 rfl rfl)
theorem dX0_stoppedPart_12 : decode cX0_stoppedPart 12 = .ok (.iconst 1, 1) := dk_4 (dk_at dksX0_stoppedPart_0 12 rfl rfl)
theorem dX0_stoppedPart_13 : decode cX0_stoppedPart 13 = .ok (.ireturn, 1) := dk_172 (dk_at dksX0_stoppedPart_0 13 rfl rfl)
theorem dX0_stoppedPart_14 : decode cX0_stoppedPart 14 = .ok (.iconst 0, 1) := dk_3 (dk_at dksX0_stoppedPart_0 14 rfl rfl)
theorem dX0_stoppedPart_15 : decode cX0_stoppedPart 15 = .ok (.ireturn, 1) := dk_172 (dk_at dksX0_stoppedPart_0 15 rfl rfl)
abbrev cX0_whyStopped : ByteArray := method_11_code
def yX0_whyStopped : MethodName := ⟨RX0, "whyStopped", "(LCrumbPictures;[J)I"⟩
def dkwX0_whyStopped_0 : List UInt8 := [43, 3, 42, 182, 0, 42, 133, 80, 167, 0, 6, 77, 4, 172, 3, 172]
abbrev dktX0_whyStopped_0 : List UInt8 := dkwX0_whyStopped_0 ++ []
theorem dksX0_whyStopped_0 : cX0_whyStopped.data.toList.drop 0 = dktX0_whyStopped_0 := by decide +kernel
theorem dX0_whyStopped_0 : decode cX0_whyStopped 0 = .ok (.aload_n 1, 1) := dk_43 (dk_at dksX0_whyStopped_0 0 rfl rfl)
theorem dX0_whyStopped_1 : decode cX0_whyStopped 1 = .ok (.iconst 0, 1) := dk_3 (dk_at dksX0_whyStopped_0 1 rfl rfl)
theorem dX0_whyStopped_2 : decode cX0_whyStopped 2 = .ok (.aload_n 0, 1) := dk_42 (dk_at dksX0_whyStopped_0 2 rfl rfl)
theorem dX0_whyStopped_3 : decode cX0_whyStopped 3 = .ok (.invokevirtual 42, 3) := dk_182 0 42 (dk_at dksX0_whyStopped_0 3 rfl rfl)
theorem dX0_whyStopped_6 : decode cX0_whyStopped 6 = .ok (.i2l, 1) := dk_133 (dk_at dksX0_whyStopped_0 6 rfl rfl)
theorem dX0_whyStopped_7 : decode cX0_whyStopped 7 = .ok (.lastore, 1) := dk_80 (dk_at dksX0_whyStopped_0 7 rfl rfl)
theorem dX0_whyStopped_8 : decode cX0_whyStopped 8 = .ok (.goto 6, 3) := dk_167 0 6 (dk_at dksX0_whyStopped_0 8 rfl rfl)
theorem dX0_whyStopped_11 : decode cX0_whyStopped 11 = .ok (.astore_n 2, 1) := dk_77 (dk_at dksX0_whyStopped_0 11 rfl rfl)
theorem dX0_whyStopped_12 : decode cX0_whyStopped 12 = .ok (.iconst 1, 1) := dk_4 (dk_at dksX0_whyStopped_0 12 rfl rfl)
theorem dX0_whyStopped_13 : decode cX0_whyStopped 13 = .ok (.ireturn, 1) := dk_172 (dk_at dksX0_whyStopped_0 13 rfl rfl)
theorem dX0_whyStopped_14 : decode cX0_whyStopped 14 = .ok (.iconst 0, 1) := dk_3 (dk_at dksX0_whyStopped_0 14 rfl rfl)
theorem dX0_whyStopped_15 : decode cX0_whyStopped 15 = .ok (.ireturn, 1) := dk_172 (dk_at dksX0_whyStopped_0 15 rfl rfl)
abbrev cX0_undo : ByteArray := method_12_code
def yX0_undo : MethodName := ⟨RX0, "undo", "(LCrumbPictures;[J)I"⟩
def dkwX0_undo_0 : List UInt8 := [43, 3, 42, 182, 0, 45, 133, 80, 167, 0, 6, 77, 4, 172, 3, 172]
abbrev dktX0_undo_0 : List UInt8 := dkwX0_undo_0 ++ []
theorem dksX0_undo_0 : cX0_undo.data.toList.drop 0 = dktX0_undo_0 := by decide +kernel
theorem dX0_undo_0 : decode cX0_undo 0 = .ok (.aload_n 1, 1) := dk_43 (dk_at dksX0_undo_0 0 rfl rfl)
theorem dX0_undo_1 : decode cX0_undo 1 = .ok (.iconst 0, 1) := dk_3 (dk_at dksX0_undo_0 1 rfl rfl)
theorem dX0_undo_2 : decode cX0_undo 2 = .ok (.aload_n 0, 1) := dk_42 (dk_at dksX0_undo_0 2 rfl rfl)
theorem dX0_undo_3 : decode cX0_undo 3 = .ok (.invokevirtual 45, 3) := dk_182 0 45 (dk_at dksX0_undo_0 3 rfl rfl)
theorem dX0_undo_6 : decode cX0_undo 6 = .ok (.i2l, 1) := dk_133 (dk_at dksX0_undo_0 6 rfl rfl)
theorem dX0_undo_7 : decode cX0_undo 7 = .ok (.lastore, 1) := dk_80 (dk_at dksX0_undo_0 7 rfl rfl)
theorem dX0_undo_8 : decode cX0_undo 8 = .ok (.goto 6, 3) := dk_167 0 6 (dk_at dksX0_undo_0 8 rfl rfl)
theorem dX0_undo_11 : decode cX0_undo 11 = .ok (.astore_n 2, 1) := dk_77 (dk_at dksX0_undo_0 11 rfl rfl)
theorem dX0_undo_12 : decode cX0_undo 12 = .ok (.iconst 1, 1) := dk_4 (dk_at dksX0_undo_0 12 rfl rfl)
theorem dX0_undo_13 : decode cX0_undo 13 = .ok (.ireturn, 1) := dk_172 (dk_at dksX0_undo_0 13 rfl rfl)
theorem dX0_undo_14 : decode cX0_undo 14 = .ok (.iconst 0, 1) := dk_3 (dk_at dksX0_undo_0 14 rfl rfl)
theorem dX0_undo_15 : decode cX0_undo 15 = .ok (.ireturn, 1) := dk_172 (dk_at dksX0_undo_0 15 rfl rfl)
abbrev cX0_restore : ByteArray := method_13_code
def yX0_restore : MethodName := ⟨RX0, "restore", "(LCrumbPictures;[J)I"⟩
def dkwX0_restore_0 : List UInt8 := [43, 3, 42, 182, 0, 48, 133, 80, 167, 0, 6, 77, 4, 172, 3, 172]
abbrev dktX0_restore_0 : List UInt8 := dkwX0_restore_0 ++ []
theorem dksX0_restore_0 : cX0_restore.data.toList.drop 0 = dktX0_restore_0 := by decide +kernel
theorem dX0_restore_0 : decode cX0_restore 0 = .ok (.aload_n 1, 1) := dk_43 (dk_at dksX0_restore_0 0 rfl rfl)
theorem dX0_restore_1 : decode cX0_restore 1 = .ok (.iconst 0, 1) := dk_3 (dk_at dksX0_restore_0 1 rfl rfl)
theorem dX0_restore_2 : decode cX0_restore 2 = .ok (.aload_n 0, 1) := dk_42 (dk_at dksX0_restore_0 2 rfl rfl)
theorem dX0_restore_3 : decode cX0_restore 3 = .ok (.invokevirtual 48, 3) := dk_182 0 48 (dk_at dksX0_restore_0 3 rfl rfl)
theorem dX0_restore_6 : decode cX0_restore 6 = .ok (.i2l, 1) := dk_133 (dk_at dksX0_restore_0 6 rfl rfl)
theorem dX0_restore_7 : decode cX0_restore 7 = .ok (.lastore, 1) := dk_80 (dk_at dksX0_restore_0 7 rfl rfl)
theorem dX0_restore_8 : decode cX0_restore 8 = .ok (.goto 6, 3) := dk_167 0 6 (dk_at dksX0_restore_0 8 rfl rfl)
theorem dX0_restore_11 : decode cX0_restore 11 = .ok (.astore_n 2, 1) := dk_77 (dk_at dksX0_restore_0 11 rfl rfl)
theorem dX0_restore_12 : decode cX0_restore 12 = .ok (.iconst 1, 1) := dk_4 (dk_at dksX0_restore_0 12 rfl rfl)
theorem dX0_restore_13 : decode cX0_restore 13 = .ok (.ireturn, 1) := dk_172 (dk_at dksX0_restore_0 13 rfl rfl)
theorem dX0_restore_14 : decode cX0_restore 14 = .ok (.iconst 0, 1) := dk_3 (dk_at dksX0_restore_0 14 rfl rfl)
theorem dX0_restore_15 : decode cX0_restore 15 = .ok (.ireturn, 1) := dk_172 (dk_at dksX0_restore_0 15 rfl rfl)
abbrev cX0_shade : ByteArray := method_14_code
def yX0_shade : MethodName := ⟨RX0, "shade", "(LCrumbPictures;II[J)I"⟩
def dkwX0_shade_0 : List UInt8 := [45, 3, 42, 27, 28, 182, 0, 51, 133, 80, 167, 0, 7, 58, 4, 4, 172, 3, 172]
abbrev dktX0_shade_0 : List UInt8 := dkwX0_shade_0 ++ []
theorem dksX0_shade_0 : cX0_shade.data.toList.drop 0 = dktX0_shade_0 := by decide +kernel
theorem dX0_shade_0 : decode cX0_shade 0 = .ok (.aload_n 3, 1) := dk_45 (dk_at dksX0_shade_0 0 rfl rfl)
theorem dX0_shade_1 : decode cX0_shade 1 = .ok (.iconst 0, 1) := dk_3 (dk_at dksX0_shade_0 1 rfl rfl)
theorem dX0_shade_2 : decode cX0_shade 2 = .ok (.aload_n 0, 1) := dk_42 (dk_at dksX0_shade_0 2 rfl rfl)
theorem dX0_shade_3 : decode cX0_shade 3 = .ok (.iload_n 1, 1) := dk_27 (dk_at dksX0_shade_0 3 rfl rfl)
theorem dX0_shade_4 : decode cX0_shade 4 = .ok (.iload_n 2, 1) := dk_28 (dk_at dksX0_shade_0 4 rfl rfl)
theorem dX0_shade_5 : decode cX0_shade 5 = .ok (.invokevirtual 51, 3) := dk_182 0 51 (dk_at dksX0_shade_0 5 rfl rfl)
theorem dX0_shade_8 : decode cX0_shade 8 = .ok (.i2l, 1) := dk_133 (dk_at dksX0_shade_0 8 rfl rfl)
theorem dX0_shade_9 : decode cX0_shade 9 = .ok (.lastore, 1) := dk_80 (dk_at dksX0_shade_0 9 rfl rfl)
theorem dX0_shade_10 : decode cX0_shade 10 = .ok (.goto 7, 3) := dk_167 0 7 (dk_at dksX0_shade_0 10 rfl rfl)
theorem dX0_shade_13 : decode cX0_shade 13 = .ok (.astore 4, 2) := dk_58 4 (dk_at dksX0_shade_0 13 rfl rfl)
theorem dX0_shade_15 : decode cX0_shade 15 = .ok (.iconst 1, 1) := dk_4 (dk_at dksX0_shade_0 15 rfl rfl)
theorem dX0_shade_16 : decode cX0_shade 16 = .ok (.ireturn, 1) := dk_172 (dk_at dksX0_shade_0 16 rfl rfl)
theorem dX0_shade_17 : decode cX0_shade 17 = .ok (.iconst 0, 1) := dk_3 (dk_at dksX0_shade_0 17 rfl rfl)
theorem dX0_shade_18 : decode cX0_shade 18 = .ok (.ireturn, 1) := dk_172 (dk_at dksX0_shade_0 18 rfl rfl)
abbrev cX0_part : ByteArray := method_15_code
def yX0_part : MethodName := ⟨RX0, "part", "(LCrumbPictures;II[J)I"⟩
def dkwX0_part_0 : List UInt8 := [45, 3, 42, 27, 28, 182, 0, 55, 133, 80, 167, 0, 7, 58, 4, 4, 172, 3, 172]
abbrev dktX0_part_0 : List UInt8 := dkwX0_part_0 ++ []
theorem dksX0_part_0 : cX0_part.data.toList.drop 0 = dktX0_part_0 := by decide +kernel
theorem dX0_part_0 : decode cX0_part 0 = .ok (.aload_n 3, 1) := dk_45 (dk_at dksX0_part_0 0 rfl rfl)
theorem dX0_part_1 : decode cX0_part 1 = .ok (.iconst 0, 1) := dk_3 (dk_at dksX0_part_0 1 rfl rfl)
theorem dX0_part_2 : decode cX0_part 2 = .ok (.aload_n 0, 1) := dk_42 (dk_at dksX0_part_0 2 rfl rfl)
theorem dX0_part_3 : decode cX0_part 3 = .ok (.iload_n 1, 1) := dk_27 (dk_at dksX0_part_0 3 rfl rfl)
theorem dX0_part_4 : decode cX0_part 4 = .ok (.iload_n 2, 1) := dk_28 (dk_at dksX0_part_0 4 rfl rfl)
theorem dX0_part_5 : decode cX0_part 5 = .ok (.invokevirtual 55, 3) := dk_182 0 55 (dk_at dksX0_part_0 5 rfl rfl)
theorem dX0_part_8 : decode cX0_part 8 = .ok (.i2l, 1) := dk_133 (dk_at dksX0_part_0 8 rfl rfl)
theorem dX0_part_9 : decode cX0_part 9 = .ok (.lastore, 1) := dk_80 (dk_at dksX0_part_0 9 rfl rfl)
theorem dX0_part_10 : decode cX0_part 10 = .ok (.goto 7, 3) := dk_167 0 7 (dk_at dksX0_part_0 10 rfl rfl)
theorem dX0_part_13 : decode cX0_part 13 = .ok (.astore 4, 2) := dk_58 4 (dk_at dksX0_part_0 13 rfl rfl)
theorem dX0_part_15 : decode cX0_part 15 = .ok (.iconst 1, 1) := dk_4 (dk_at dksX0_part_0 15 rfl rfl)
theorem dX0_part_16 : decode cX0_part 16 = .ok (.ireturn, 1) := dk_172 (dk_at dksX0_part_0 16 rfl rfl)
theorem dX0_part_17 : decode cX0_part 17 = .ok (.iconst 0, 1) := dk_3 (dk_at dksX0_part_0 17 rfl rfl)
theorem dX0_part_18 : decode cX0_part 18 = .ok (.ireturn, 1) := dk_172 (dk_at dksX0_part_0 18 rfl rfl)
abbrev cX0_bandOf : ByteArray := method_16_code
def yX0_bandOf : MethodName := ⟨RX0, "bandOf", "(LCrumbPictures;II[J)I"⟩
def dkwX0_bandOf_0 : List UInt8 := [45, 3, 42, 27, 28, 182, 0, 58, 133, 80, 167, 0, 7, 58, 4, 4, 172, 3, 172]
abbrev dktX0_bandOf_0 : List UInt8 := dkwX0_bandOf_0 ++ []
theorem dksX0_bandOf_0 : cX0_bandOf.data.toList.drop 0 = dktX0_bandOf_0 := by decide +kernel
theorem dX0_bandOf_0 : decode cX0_bandOf 0 = .ok (.aload_n 3, 1) := dk_45 (dk_at dksX0_bandOf_0 0 rfl rfl)
theorem dX0_bandOf_1 : decode cX0_bandOf 1 = .ok (.iconst 0, 1) := dk_3 (dk_at dksX0_bandOf_0 1 rfl rfl)
theorem dX0_bandOf_2 : decode cX0_bandOf 2 = .ok (.aload_n 0, 1) := dk_42 (dk_at dksX0_bandOf_0 2 rfl rfl)
theorem dX0_bandOf_3 : decode cX0_bandOf 3 = .ok (.iload_n 1, 1) := dk_27 (dk_at dksX0_bandOf_0 3 rfl rfl)
theorem dX0_bandOf_4 : decode cX0_bandOf 4 = .ok (.iload_n 2, 1) := dk_28 (dk_at dksX0_bandOf_0 4 rfl rfl)
theorem dX0_bandOf_5 : decode cX0_bandOf 5 = .ok (.invokevirtual 58, 3) := dk_182 0 58 (dk_at dksX0_bandOf_0 5 rfl rfl)
theorem dX0_bandOf_8 : decode cX0_bandOf 8 = .ok (.i2l, 1) := dk_133 (dk_at dksX0_bandOf_0 8 rfl rfl)
theorem dX0_bandOf_9 : decode cX0_bandOf 9 = .ok (.lastore, 1) := dk_80 (dk_at dksX0_bandOf_0 9 rfl rfl)
theorem dX0_bandOf_10 : decode cX0_bandOf 10 = .ok (.goto 7, 3) := dk_167 0 7 (dk_at dksX0_bandOf_0 10 rfl rfl)
theorem dX0_bandOf_13 : decode cX0_bandOf 13 = .ok (.astore 4, 2) := dk_58 4 (dk_at dksX0_bandOf_0 13 rfl rfl)
theorem dX0_bandOf_15 : decode cX0_bandOf 15 = .ok (.iconst 1, 1) := dk_4 (dk_at dksX0_bandOf_0 15 rfl rfl)
theorem dX0_bandOf_16 : decode cX0_bandOf 16 = .ok (.ireturn, 1) := dk_172 (dk_at dksX0_bandOf_0 16 rfl rfl)
theorem dX0_bandOf_17 : decode cX0_bandOf 17 = .ok (.iconst 0, 1) := dk_3 (dk_at dksX0_bandOf_0 17 rfl rfl)
theorem dX0_bandOf_18 : decode cX0_bandOf 18 = .ok (.ireturn, 1) := dk_172 (dk_at dksX0_bandOf_0 18 rfl rfl)
abbrev cX0_placeOf : ByteArray := method_17_code
def yX0_placeOf : MethodName := ⟨RX0, "placeOf", "(LCrumbPictures;II[J)I"⟩
def dkwX0_placeOf_0 : List UInt8 := [45, 3, 42, 27, 28, 182, 0, 61, 133, 80, 167, 0, 7, 58, 4, 4, 172, 3, 172]
abbrev dktX0_placeOf_0 : List UInt8 := dkwX0_placeOf_0 ++ []
theorem dksX0_placeOf_0 : cX0_placeOf.data.toList.drop 0 = dktX0_placeOf_0 := by decide +kernel
theorem dX0_placeOf_0 : decode cX0_placeOf 0 = .ok (.aload_n 3, 1) := dk_45 (dk_at dksX0_placeOf_0 0 rfl rfl)
theorem dX0_placeOf_1 : decode cX0_placeOf 1 = .ok (.iconst 0, 1) := dk_3 (dk_at dksX0_placeOf_0 1 rfl rfl)
theorem dX0_placeOf_2 : decode cX0_placeOf 2 = .ok (.aload_n 0, 1) := dk_42 (dk_at dksX0_placeOf_0 2 rfl rfl)
theorem dX0_placeOf_3 : decode cX0_placeOf 3 = .ok (.iload_n 1, 1) := dk_27 (dk_at dksX0_placeOf_0 3 rfl rfl)
theorem dX0_placeOf_4 : decode cX0_placeOf 4 = .ok (.iload_n 2, 1) := dk_28 (dk_at dksX0_placeOf_0 4 rfl rfl)
theorem dX0_placeOf_5 : decode cX0_placeOf 5 = .ok (.invokevirtual 61, 3) := dk_182 0 61 (dk_at dksX0_placeOf_0 5 rfl rfl)
theorem dX0_placeOf_8 : decode cX0_placeOf 8 = .ok (.i2l, 1) := dk_133 (dk_at dksX0_placeOf_0 8 rfl rfl)
theorem dX0_placeOf_9 : decode cX0_placeOf 9 = .ok (.lastore, 1) := dk_80 (dk_at dksX0_placeOf_0 9 rfl rfl)
theorem dX0_placeOf_10 : decode cX0_placeOf 10 = .ok (.goto 7, 3) := dk_167 0 7 (dk_at dksX0_placeOf_0 10 rfl rfl)
theorem dX0_placeOf_13 : decode cX0_placeOf 13 = .ok (.astore 4, 2) := dk_58 4 (dk_at dksX0_placeOf_0 13 rfl rfl)
theorem dX0_placeOf_15 : decode cX0_placeOf 15 = .ok (.iconst 1, 1) := dk_4 (dk_at dksX0_placeOf_0 15 rfl rfl)
theorem dX0_placeOf_16 : decode cX0_placeOf 16 = .ok (.ireturn, 1) := dk_172 (dk_at dksX0_placeOf_0 16 rfl rfl)
theorem dX0_placeOf_17 : decode cX0_placeOf 17 = .ok (.iconst 0, 1) := dk_3 (dk_at dksX0_placeOf_0 17 rfl rfl)
theorem dX0_placeOf_18 : decode cX0_placeOf 18 = .ok (.ireturn, 1) := dk_172 (dk_at dksX0_placeOf_0 18 rfl rfl)
abbrev cX0_energy : ByteArray := method_18_code
def yX0_energy : MethodName := ⟨RX0, "energy", "(LCrumbPictures;I[J)I"⟩
def dkwX0_energy_0 : List UInt8 := [44, 3, 42, 27, 182, 0, 64, 133, 80, 167, 0, 6, 78, 4, 172, 3, 172]
abbrev dktX0_energy_0 : List UInt8 := dkwX0_energy_0 ++ []
theorem dksX0_energy_0 : cX0_energy.data.toList.drop 0 = dktX0_energy_0 := by decide +kernel
theorem dX0_energy_0 : decode cX0_energy 0 = .ok (.aload_n 2, 1) := dk_44 (dk_at dksX0_energy_0 0 rfl rfl)
theorem dX0_energy_1 : decode cX0_energy 1 = .ok (.iconst 0, 1) := dk_3 (dk_at dksX0_energy_0 1 rfl rfl)
theorem dX0_energy_2 : decode cX0_energy 2 = .ok (.aload_n 0, 1) := dk_42 (dk_at dksX0_energy_0 2 rfl rfl)
theorem dX0_energy_3 : decode cX0_energy 3 = .ok (.iload_n 1, 1) := dk_27 (dk_at dksX0_energy_0 3 rfl rfl)
theorem dX0_energy_4 : decode cX0_energy 4 = .ok (.invokevirtual 64, 3) := dk_182 0 64 (dk_at dksX0_energy_0 4 rfl rfl)
theorem dX0_energy_7 : decode cX0_energy 7 = .ok (.i2l, 1) := dk_133 (dk_at dksX0_energy_0 7 rfl rfl)
theorem dX0_energy_8 : decode cX0_energy 8 = .ok (.lastore, 1) := dk_80 (dk_at dksX0_energy_0 8 rfl rfl)
theorem dX0_energy_9 : decode cX0_energy 9 = .ok (.goto 6, 3) := dk_167 0 6 (dk_at dksX0_energy_0 9 rfl rfl)
theorem dX0_energy_12 : decode cX0_energy 12 = .ok (.astore_n 3, 1) := dk_78 (dk_at dksX0_energy_0 12 rfl rfl)
theorem dX0_energy_13 : decode cX0_energy 13 = .ok (.iconst 1, 1) := dk_4 (dk_at dksX0_energy_0 13 rfl rfl)
theorem dX0_energy_14 : decode cX0_energy 14 = .ok (.ireturn, 1) := dk_172 (dk_at dksX0_energy_0 14 rfl rfl)
theorem dX0_energy_15 : decode cX0_energy 15 = .ok (.iconst 0, 1) := dk_3 (dk_at dksX0_energy_0 15 rfl rfl)
theorem dX0_energy_16 : decode cX0_energy 16 = .ok (.ireturn, 1) := dk_172 (dk_at dksX0_energy_0 16 rfl rfl)
abbrev cX0_shadeBack : ByteArray := method_19_code
def yX0_shadeBack : MethodName := ⟨RX0, "shadeBack", "(LCrumbPictures;II[J)I"⟩
def dkwX0_shadeBack_0 : List UInt8 := [45, 3, 42, 27, 28, 182, 0, 67, 133, 80, 167, 0, 7, 58, 4, 4, 172, 3, 172]
abbrev dktX0_shadeBack_0 : List UInt8 := dkwX0_shadeBack_0 ++ []
theorem dksX0_shadeBack_0 : cX0_shadeBack.data.toList.drop 0 = dktX0_shadeBack_0 := by decide +kernel
theorem dX0_shadeBack_0 : decode cX0_shadeBack 0 = .ok (.aload_n 3, 1) := dk_45 (dk_at dksX0_shadeBack_0 0 rfl rfl)
theorem dX0_shadeBack_1 : decode cX0_shadeBack 1 = .ok (.iconst 0, 1) := dk_3 (dk_at dksX0_shadeBack_0 1 rfl rfl)
theorem dX0_shadeBack_2 : decode cX0_shadeBack 2 = .ok (.aload_n 0, 1) := dk_42 (dk_at dksX0_shadeBack_0 2 rfl rfl)
theorem dX0_shadeBack_3 : decode cX0_shadeBack 3 = .ok (.iload_n 1, 1) := dk_27 (dk_at dksX0_shadeBack_0 3 rfl rfl)
theorem dX0_shadeBack_4 : decode cX0_shadeBack 4 = .ok (.iload_n 2, 1) := dk_28 (dk_at dksX0_shadeBack_0 4 rfl rfl)
theorem dX0_shadeBack_5 : decode cX0_shadeBack 5 = .ok (.invokevirtual 67, 3) := dk_182 0 67 (dk_at dksX0_shadeBack_0 5 rfl rfl)
theorem dX0_shadeBack_8 : decode cX0_shadeBack 8 = .ok (.i2l, 1) := dk_133 (dk_at dksX0_shadeBack_0 8 rfl rfl)
theorem dX0_shadeBack_9 : decode cX0_shadeBack 9 = .ok (.lastore, 1) := dk_80 (dk_at dksX0_shadeBack_0 9 rfl rfl)
theorem dX0_shadeBack_10 : decode cX0_shadeBack 10 = .ok (.goto 7, 3) := dk_167 0 7 (dk_at dksX0_shadeBack_0 10 rfl rfl)
theorem dX0_shadeBack_13 : decode cX0_shadeBack 13 = .ok (.astore 4, 2) := dk_58 4 (dk_at dksX0_shadeBack_0 13 rfl rfl)
theorem dX0_shadeBack_15 : decode cX0_shadeBack 15 = .ok (.iconst 1, 1) := dk_4 (dk_at dksX0_shadeBack_0 15 rfl rfl)
theorem dX0_shadeBack_16 : decode cX0_shadeBack 16 = .ok (.ireturn, 1) := dk_172 (dk_at dksX0_shadeBack_0 16 rfl rfl)
theorem dX0_shadeBack_17 : decode cX0_shadeBack 17 = .ok (.iconst 0, 1) := dk_3 (dk_at dksX0_shadeBack_0 17 rfl rfl)
theorem dX0_shadeBack_18 : decode cX0_shadeBack 18 = .ok (.ireturn, 1) := dk_172 (dk_at dksX0_shadeBack_0 18 rfl rfl)
abbrev cX0_shadeByParts : ByteArray := method_20_code
def yX0_shadeByParts : MethodName := ⟨RX0, "shadeByParts", "(LCrumbPictures;II[J)I"⟩
def dkwX0_shadeByParts_0 : List UInt8 := [45, 3, 42, 27, 28, 182, 0, 70, 133, 80, 167, 0, 7, 58, 4, 4, 172, 3, 172]
abbrev dktX0_shadeByParts_0 : List UInt8 := dkwX0_shadeByParts_0 ++ []
theorem dksX0_shadeByParts_0 : cX0_shadeByParts.data.toList.drop 0 = dktX0_shadeByParts_0 := by decide +kernel
theorem dX0_shadeByParts_0 : decode cX0_shadeByParts 0 = .ok (.aload_n 3, 1) := dk_45 (dk_at dksX0_shadeByParts_0 0 rfl rfl)
theorem dX0_shadeByParts_1 : decode cX0_shadeByParts 1 = .ok (.iconst 0, 1) := dk_3 (dk_at dksX0_shadeByParts_0 1 rfl rfl)
theorem dX0_shadeByParts_2 : decode cX0_shadeByParts 2 = .ok (.aload_n 0, 1) := dk_42 (dk_at dksX0_shadeByParts_0 2 rfl rfl)
theorem dX0_shadeByParts_3 : decode cX0_shadeByParts 3 = .ok (.iload_n 1, 1) := dk_27 (dk_at dksX0_shadeByParts_0 3 rfl rfl)
theorem dX0_shadeByParts_4 : decode cX0_shadeByParts 4 = .ok (.iload_n 2, 1) := dk_28 (dk_at dksX0_shadeByParts_0 4 rfl rfl)
theorem dX0_shadeByParts_5 : decode cX0_shadeByParts 5 = .ok (.invokevirtual 70, 3) := dk_182 0 70 (dk_at dksX0_shadeByParts_0 5 rfl rfl)
theorem dX0_shadeByParts_8 : decode cX0_shadeByParts 8 = .ok (.i2l, 1) := dk_133 (dk_at dksX0_shadeByParts_0 8 rfl rfl)
theorem dX0_shadeByParts_9 : decode cX0_shadeByParts 9 = .ok (.lastore, 1) := dk_80 (dk_at dksX0_shadeByParts_0 9 rfl rfl)
theorem dX0_shadeByParts_10 : decode cX0_shadeByParts 10 = .ok (.goto 7, 3) := dk_167 0 7 (dk_at dksX0_shadeByParts_0 10 rfl rfl)
theorem dX0_shadeByParts_13 : decode cX0_shadeByParts 13 = .ok (.astore 4, 2) := dk_58 4 (dk_at dksX0_shadeByParts_0 13 rfl rfl)
theorem dX0_shadeByParts_15 : decode cX0_shadeByParts 15 = .ok (.iconst 1, 1) := dk_4 (dk_at dksX0_shadeByParts_0 15 rfl rfl)
theorem dX0_shadeByParts_16 : decode cX0_shadeByParts 16 = .ok (.ireturn, 1) := dk_172 (dk_at dksX0_shadeByParts_0 16 rfl rfl)
theorem dX0_shadeByParts_17 : decode cX0_shadeByParts 17 = .ok (.iconst 0, 1) := dk_3 (dk_at dksX0_shadeByParts_0 17 rfl rfl)
theorem dX0_shadeByParts_18 : decode cX0_shadeByParts 18 = .ok (.ireturn, 1) := dk_172 (dk_at dksX0_shadeByParts_0 18 rfl rfl)
abbrev cX0_crumbs : ByteArray := method_21_code
def yX0_crumbs : MethodName := ⟨RX0, "crumbs", "(LCrumbPictures;I[J)I"⟩
def dkwX0_crumbs_0 : List UInt8 := [44, 3, 42, 27, 182, 0, 73, 133, 80, 167, 0, 6, 78, 4, 172, 3, 172]
abbrev dktX0_crumbs_0 : List UInt8 := dkwX0_crumbs_0 ++ []
theorem dksX0_crumbs_0 : cX0_crumbs.data.toList.drop 0 = dktX0_crumbs_0 := by decide +kernel
theorem dX0_crumbs_0 : decode cX0_crumbs 0 = .ok (.aload_n 2, 1) := dk_44 (dk_at dksX0_crumbs_0 0 rfl rfl)
theorem dX0_crumbs_1 : decode cX0_crumbs 1 = .ok (.iconst 0, 1) := dk_3 (dk_at dksX0_crumbs_0 1 rfl rfl)
theorem dX0_crumbs_2 : decode cX0_crumbs 2 = .ok (.aload_n 0, 1) := dk_42 (dk_at dksX0_crumbs_0 2 rfl rfl)
theorem dX0_crumbs_3 : decode cX0_crumbs 3 = .ok (.iload_n 1, 1) := dk_27 (dk_at dksX0_crumbs_0 3 rfl rfl)
theorem dX0_crumbs_4 : decode cX0_crumbs 4 = .ok (.invokevirtual 73, 3) := dk_182 0 73 (dk_at dksX0_crumbs_0 4 rfl rfl)
theorem dX0_crumbs_7 : decode cX0_crumbs 7 = .ok (.i2l, 1) := dk_133 (dk_at dksX0_crumbs_0 7 rfl rfl)
theorem dX0_crumbs_8 : decode cX0_crumbs 8 = .ok (.lastore, 1) := dk_80 (dk_at dksX0_crumbs_0 8 rfl rfl)
theorem dX0_crumbs_9 : decode cX0_crumbs 9 = .ok (.goto 6, 3) := dk_167 0 6 (dk_at dksX0_crumbs_0 9 rfl rfl)
theorem dX0_crumbs_12 : decode cX0_crumbs 12 = .ok (.astore_n 3, 1) := dk_78 (dk_at dksX0_crumbs_0 12 rfl rfl)
theorem dX0_crumbs_13 : decode cX0_crumbs 13 = .ok (.iconst 1, 1) := dk_4 (dk_at dksX0_crumbs_0 13 rfl rfl)
theorem dX0_crumbs_14 : decode cX0_crumbs 14 = .ok (.ireturn, 1) := dk_172 (dk_at dksX0_crumbs_0 14 rfl rfl)
theorem dX0_crumbs_15 : decode cX0_crumbs 15 = .ok (.iconst 0, 1) := dk_3 (dk_at dksX0_crumbs_0 15 rfl rfl)
theorem dX0_crumbs_16 : decode cX0_crumbs 16 = .ok (.ireturn, 1) := dk_172 (dk_at dksX0_crumbs_0 16 rfl rfl)
abbrev cX0_cost : ByteArray := method_22_code
def yX0_cost : MethodName := ⟨RX0, "cost", "(LCrumbPictures;I[J)I"⟩
def dkwX0_cost_0 : List UInt8 := [44, 3, 42, 27, 182, 0, 76, 133, 80, 167, 0, 6, 78, 4, 172, 3, 172]
abbrev dktX0_cost_0 : List UInt8 := dkwX0_cost_0 ++ []
theorem dksX0_cost_0 : cX0_cost.data.toList.drop 0 = dktX0_cost_0 := by decide +kernel
theorem dX0_cost_0 : decode cX0_cost 0 = .ok (.aload_n 2, 1) := dk_44 (dk_at dksX0_cost_0 0 rfl rfl)
theorem dX0_cost_1 : decode cX0_cost 1 = .ok (.iconst 0, 1) := dk_3 (dk_at dksX0_cost_0 1 rfl rfl)
theorem dX0_cost_2 : decode cX0_cost 2 = .ok (.aload_n 0, 1) := dk_42 (dk_at dksX0_cost_0 2 rfl rfl)
theorem dX0_cost_3 : decode cX0_cost 3 = .ok (.iload_n 1, 1) := dk_27 (dk_at dksX0_cost_0 3 rfl rfl)
theorem dX0_cost_4 : decode cX0_cost 4 = .ok (.invokevirtual 76, 3) := dk_182 0 76 (dk_at dksX0_cost_0 4 rfl rfl)
theorem dX0_cost_7 : decode cX0_cost 7 = .ok (.i2l, 1) := dk_133 (dk_at dksX0_cost_0 7 rfl rfl)
theorem dX0_cost_8 : decode cX0_cost 8 = .ok (.lastore, 1) := dk_80 (dk_at dksX0_cost_0 8 rfl rfl)
theorem dX0_cost_9 : decode cX0_cost 9 = .ok (.goto 6, 3) := dk_167 0 6 (dk_at dksX0_cost_0 9 rfl rfl)
theorem dX0_cost_12 : decode cX0_cost 12 = .ok (.astore_n 3, 1) := dk_78 (dk_at dksX0_cost_0 12 rfl rfl)
theorem dX0_cost_13 : decode cX0_cost 13 = .ok (.iconst 1, 1) := dk_4 (dk_at dksX0_cost_0 13 rfl rfl)
theorem dX0_cost_14 : decode cX0_cost 14 = .ok (.ireturn, 1) := dk_172 (dk_at dksX0_cost_0 14 rfl rfl)
theorem dX0_cost_15 : decode cX0_cost 15 = .ok (.iconst 0, 1) := dk_3 (dk_at dksX0_cost_0 15 rfl rfl)
theorem dX0_cost_16 : decode cX0_cost 16 = .ok (.ireturn, 1) := dk_172 (dk_at dksX0_cost_0 16 rfl rfl)
abbrev cX0_worst : ByteArray := method_23_code
def yX0_worst : MethodName := ⟨RX0, "worst", "(LCrumbPictures;I[J)I"⟩
def dkwX0_worst_0 : List UInt8 := [44, 3, 42, 27, 182, 0, 79, 133, 80, 167, 0, 6, 78, 4, 172, 3, 172]
abbrev dktX0_worst_0 : List UInt8 := dkwX0_worst_0 ++ []
theorem dksX0_worst_0 : cX0_worst.data.toList.drop 0 = dktX0_worst_0 := by decide +kernel
theorem dX0_worst_0 : decode cX0_worst 0 = .ok (.aload_n 2, 1) := dk_44 (dk_at dksX0_worst_0 0 rfl rfl)
theorem dX0_worst_1 : decode cX0_worst 1 = .ok (.iconst 0, 1) := dk_3 (dk_at dksX0_worst_0 1 rfl rfl)
theorem dX0_worst_2 : decode cX0_worst 2 = .ok (.aload_n 0, 1) := dk_42 (dk_at dksX0_worst_0 2 rfl rfl)
theorem dX0_worst_3 : decode cX0_worst 3 = .ok (.iload_n 1, 1) := dk_27 (dk_at dksX0_worst_0 3 rfl rfl)
theorem dX0_worst_4 : decode cX0_worst 4 = .ok (.invokevirtual 79, 3) := dk_182 0 79 (dk_at dksX0_worst_0 4 rfl rfl)
theorem dX0_worst_7 : decode cX0_worst 7 = .ok (.i2l, 1) := dk_133 (dk_at dksX0_worst_0 7 rfl rfl)
theorem dX0_worst_8 : decode cX0_worst 8 = .ok (.lastore, 1) := dk_80 (dk_at dksX0_worst_0 8 rfl rfl)
theorem dX0_worst_9 : decode cX0_worst 9 = .ok (.goto 6, 3) := dk_167 0 6 (dk_at dksX0_worst_0 9 rfl rfl)
theorem dX0_worst_12 : decode cX0_worst 12 = .ok (.astore_n 3, 1) := dk_78 (dk_at dksX0_worst_0 12 rfl rfl)
theorem dX0_worst_13 : decode cX0_worst 13 = .ok (.iconst 1, 1) := dk_4 (dk_at dksX0_worst_0 13 rfl rfl)
theorem dX0_worst_14 : decode cX0_worst 14 = .ok (.ireturn, 1) := dk_172 (dk_at dksX0_worst_0 14 rfl rfl)
theorem dX0_worst_15 : decode cX0_worst 15 = .ok (.iconst 0, 1) := dk_3 (dk_at dksX0_worst_0 15 rfl rfl)
theorem dX0_worst_16 : decode cX0_worst 16 = .ok (.ireturn, 1) := dk_172 (dk_at dksX0_worst_0 16 rfl rfl)
abbrev cX0_thresholdFor : ByteArray := method_24_code
def yX0_thresholdFor : MethodName := ⟨RX0, "thresholdFor", "(LCrumbPictures;I[J)I"⟩
def dkwX0_thresholdFor_0 : List UInt8 := [44, 3, 42, 27, 182, 0, 82, 133, 80, 167, 0, 6, 78, 4, 172, 3, 172]
abbrev dktX0_thresholdFor_0 : List UInt8 := dkwX0_thresholdFor_0 ++ []
theorem dksX0_thresholdFor_0 : cX0_thresholdFor.data.toList.drop 0 = dktX0_thresholdFor_0 := by decide +kernel
theorem dX0_thresholdFor_0 : decode cX0_thresholdFor 0 = .ok (.aload_n 2, 1) := dk_44 (dk_at dksX0_thresholdFor_0 0 rfl rfl)
theorem dX0_thresholdFor_1 : decode cX0_thresholdFor 1 = .ok (.iconst 0, 1) := dk_3 (dk_at dksX0_thresholdFor_0 1 rfl rfl)
theorem dX0_thresholdFor_2 : decode cX0_thresholdFor 2 = .ok (.aload_n 0, 1) := dk_42 (dk_at dksX0_thresholdFor_0 2 rfl rfl)
theorem dX0_thresholdFor_3 : decode cX0_thresholdFor 3 = .ok (.iload_n 1, 1) := dk_27 (dk_at dksX0_thresholdFor_0 3 rfl rfl)
theorem dX0_thresholdFor_4 : decode cX0_thresholdFor 4 = .ok (.invokevirtual 82, 3) := dk_182 0 82 (dk_at dksX0_thresholdFor_0 4 rfl rfl)
theorem dX0_thresholdFor_7 : decode cX0_thresholdFor 7 = .ok (.i2l, 1) := dk_133 (dk_at dksX0_thresholdFor_0 7 rfl rfl)
theorem dX0_thresholdFor_8 : decode cX0_thresholdFor 8 = .ok (.lastore, 1) := dk_80 (dk_at dksX0_thresholdFor_0 8 rfl rfl)
theorem dX0_thresholdFor_9 : decode cX0_thresholdFor 9 = .ok (.goto 6, 3) := dk_167 0 6 (dk_at dksX0_thresholdFor_0 9 rfl rfl)
theorem dX0_thresholdFor_12 : decode cX0_thresholdFor 12 = .ok (.astore_n 3, 1) := dk_78 (dk_at dksX0_thresholdFor_0 12 rfl rfl)
theorem dX0_thresholdFor_13 : decode cX0_thresholdFor 13 = .ok (.iconst 1, 1) := dk_4 (dk_at dksX0_thresholdFor_0 13 rfl rfl)
theorem dX0_thresholdFor_14 : decode cX0_thresholdFor 14 = .ok (.ireturn, 1) := dk_172 (dk_at dksX0_thresholdFor_0 14 rfl rfl)
theorem dX0_thresholdFor_15 : decode cX0_thresholdFor 15 = .ok (.iconst 0, 1) := dk_3 (dk_at dksX0_thresholdFor_0 15 rfl rfl)
theorem dX0_thresholdFor_16 : decode cX0_thresholdFor 16 = .ok (.ireturn, 1) := dk_172 (dk_at dksX0_thresholdFor_0 16 rfl rfl)
abbrev cX0_costOfPlanes : ByteArray := method_25_code
def yX0_costOfPlanes : MethodName := ⟨RX0, "costOfPlanes", "(LCrumbPictures;I[J)I"⟩
def dkwX0_costOfPlanes_0 : List UInt8 := [44, 3, 42, 27, 182, 0, 85, 133, 80, 167, 0, 6, 78, 4, 172, 3, 172]
abbrev dktX0_costOfPlanes_0 : List UInt8 := dkwX0_costOfPlanes_0 ++ []
theorem dksX0_costOfPlanes_0 : cX0_costOfPlanes.data.toList.drop 0 = dktX0_costOfPlanes_0 := by decide +kernel
theorem dX0_costOfPlanes_0 : decode cX0_costOfPlanes 0 = .ok (.aload_n 2, 1) := dk_44 (dk_at dksX0_costOfPlanes_0 0 rfl rfl)
theorem dX0_costOfPlanes_1 : decode cX0_costOfPlanes 1 = .ok (.iconst 0, 1) := dk_3 (dk_at dksX0_costOfPlanes_0 1 rfl rfl)
theorem dX0_costOfPlanes_2 : decode cX0_costOfPlanes 2 = .ok (.aload_n 0, 1) := dk_42 (dk_at dksX0_costOfPlanes_0 2 rfl rfl)
theorem dX0_costOfPlanes_3 : decode cX0_costOfPlanes 3 = .ok (.iload_n 1, 1) := dk_27 (dk_at dksX0_costOfPlanes_0 3 rfl rfl)
theorem dX0_costOfPlanes_4 : decode cX0_costOfPlanes 4 = .ok (.invokevirtual 85, 3) := dk_182 0 85 (dk_at dksX0_costOfPlanes_0 4 rfl rfl)
theorem dX0_costOfPlanes_7 : decode cX0_costOfPlanes 7 = .ok (.i2l, 1) := dk_133 (dk_at dksX0_costOfPlanes_0 7 rfl rfl)
theorem dX0_costOfPlanes_8 : decode cX0_costOfPlanes 8 = .ok (.lastore, 1) := dk_80 (dk_at dksX0_costOfPlanes_0 8 rfl rfl)
theorem dX0_costOfPlanes_9 : decode cX0_costOfPlanes 9 = .ok (.goto 6, 3) := dk_167 0 6 (dk_at dksX0_costOfPlanes_0 9 rfl rfl)
theorem dX0_costOfPlanes_12 : decode cX0_costOfPlanes 12 = .ok (.astore_n 3, 1) := dk_78 (dk_at dksX0_costOfPlanes_0 12 rfl rfl)
theorem dX0_costOfPlanes_13 : decode cX0_costOfPlanes 13 = .ok (.iconst 1, 1) := dk_4 (dk_at dksX0_costOfPlanes_0 13 rfl rfl)
theorem dX0_costOfPlanes_14 : decode cX0_costOfPlanes 14 = .ok (.ireturn, 1) := dk_172 (dk_at dksX0_costOfPlanes_0 14 rfl rfl)
theorem dX0_costOfPlanes_15 : decode cX0_costOfPlanes 15 = .ok (.iconst 0, 1) := dk_3 (dk_at dksX0_costOfPlanes_0 15 rfl rfl)
theorem dX0_costOfPlanes_16 : decode cX0_costOfPlanes 16 = .ok (.ireturn, 1) := dk_172 (dk_at dksX0_costOfPlanes_0 16 rfl rfl)
abbrev cX0_trees : ByteArray := method_26_code
def yX0_trees : MethodName := ⟨RX0, "trees", "(LCrumbPictures;I[J)I"⟩
def dkwX0_trees_0 : List UInt8 := [44, 3, 42, 27, 182, 0, 88, 133, 80, 167, 0, 6, 78, 4, 172, 3, 172]
abbrev dktX0_trees_0 : List UInt8 := dkwX0_trees_0 ++ []
theorem dksX0_trees_0 : cX0_trees.data.toList.drop 0 = dktX0_trees_0 := by decide +kernel
theorem dX0_trees_0 : decode cX0_trees 0 = .ok (.aload_n 2, 1) := dk_44 (dk_at dksX0_trees_0 0 rfl rfl)
theorem dX0_trees_1 : decode cX0_trees 1 = .ok (.iconst 0, 1) := dk_3 (dk_at dksX0_trees_0 1 rfl rfl)
theorem dX0_trees_2 : decode cX0_trees 2 = .ok (.aload_n 0, 1) := dk_42 (dk_at dksX0_trees_0 2 rfl rfl)
theorem dX0_trees_3 : decode cX0_trees 3 = .ok (.iload_n 1, 1) := dk_27 (dk_at dksX0_trees_0 3 rfl rfl)
theorem dX0_trees_4 : decode cX0_trees 4 = .ok (.invokevirtual 88, 3) := dk_182 0 88 (dk_at dksX0_trees_0 4 rfl rfl)
theorem dX0_trees_7 : decode cX0_trees 7 = .ok (.i2l, 1) := dk_133 (dk_at dksX0_trees_0 7 rfl rfl)
theorem dX0_trees_8 : decode cX0_trees 8 = .ok (.lastore, 1) := dk_80 (dk_at dksX0_trees_0 8 rfl rfl)
theorem dX0_trees_9 : decode cX0_trees 9 = .ok (.goto 6, 3) := dk_167 0 6 (dk_at dksX0_trees_0 9 rfl rfl)
theorem dX0_trees_12 : decode cX0_trees 12 = .ok (.astore_n 3, 1) := dk_78 (dk_at dksX0_trees_0 12 rfl rfl)
theorem dX0_trees_13 : decode cX0_trees 13 = .ok (.iconst 1, 1) := dk_4 (dk_at dksX0_trees_0 13 rfl rfl)
theorem dX0_trees_14 : decode cX0_trees 14 = .ok (.ireturn, 1) := dk_172 (dk_at dksX0_trees_0 14 rfl rfl)
theorem dX0_trees_15 : decode cX0_trees 15 = .ok (.iconst 0, 1) := dk_3 (dk_at dksX0_trees_0 15 rfl rfl)
theorem dX0_trees_16 : decode cX0_trees 16 = .ok (.ireturn, 1) := dk_172 (dk_at dksX0_trees_0 16 rfl rfl)
abbrev cX0_treesFromBelow : ByteArray := method_27_code
def yX0_treesFromBelow : MethodName := ⟨RX0, "treesFromBelow", "(LCrumbPictures;I[J)I"⟩
def dkwX0_treesFromBelow_0 : List UInt8 := [44, 3, 42, 27, 182, 0, 91, 133, 80, 167, 0, 6, 78, 4, 172, 3, 172]
abbrev dktX0_treesFromBelow_0 : List UInt8 := dkwX0_treesFromBelow_0 ++ []
theorem dksX0_treesFromBelow_0 : cX0_treesFromBelow.data.toList.drop 0 = dktX0_treesFromBelow_0 := by decide +kernel
theorem dX0_treesFromBelow_0 : decode cX0_treesFromBelow 0 = .ok (.aload_n 2, 1) := dk_44 (dk_at dksX0_treesFromBelow_0 0 rfl rfl)
theorem dX0_treesFromBelow_1 : decode cX0_treesFromBelow 1 = .ok (.iconst 0, 1) := dk_3 (dk_at dksX0_treesFromBelow_0 1 rfl rfl)
theorem dX0_treesFromBelow_2 : decode cX0_treesFromBelow 2 = .ok (.aload_n 0, 1) := dk_42 (dk_at dksX0_treesFromBelow_0 2 rfl rfl)
theorem dX0_treesFromBelow_3 : decode cX0_treesFromBelow 3 = .ok (.iload_n 1, 1) := dk_27 (dk_at dksX0_treesFromBelow_0 3 rfl rfl)
theorem dX0_treesFromBelow_4 : decode cX0_treesFromBelow 4 = .ok (.invokevirtual 91, 3) := dk_182 0 91 (dk_at dksX0_treesFromBelow_0 4 rfl rfl)
theorem dX0_treesFromBelow_7 : decode cX0_treesFromBelow 7 = .ok (.i2l, 1) := dk_133 (dk_at dksX0_treesFromBelow_0 7 rfl rfl)
theorem dX0_treesFromBelow_8 : decode cX0_treesFromBelow 8 = .ok (.lastore, 1) := dk_80 (dk_at dksX0_treesFromBelow_0 8 rfl rfl)
theorem dX0_treesFromBelow_9 : decode cX0_treesFromBelow 9 = .ok (.goto 6, 3) := dk_167 0 6 (dk_at dksX0_treesFromBelow_0 9 rfl rfl)
theorem dX0_treesFromBelow_12 : decode cX0_treesFromBelow 12 = .ok (.astore_n 3, 1) := dk_78 (dk_at dksX0_treesFromBelow_0 12 rfl rfl)
theorem dX0_treesFromBelow_13 : decode cX0_treesFromBelow 13 = .ok (.iconst 1, 1) := dk_4 (dk_at dksX0_treesFromBelow_0 13 rfl rfl)
theorem dX0_treesFromBelow_14 : decode cX0_treesFromBelow 14 = .ok (.ireturn, 1) := dk_172 (dk_at dksX0_treesFromBelow_0 14 rfl rfl)
theorem dX0_treesFromBelow_15 : decode cX0_treesFromBelow 15 = .ok (.iconst 0, 1) := dk_3 (dk_at dksX0_treesFromBelow_0 15 rfl rfl)
theorem dX0_treesFromBelow_16 : decode cX0_treesFromBelow 16 = .ok (.ireturn, 1) := dk_172 (dk_at dksX0_treesFromBelow_0 16 rfl rfl)
abbrev cX0_isTree : ByteArray := method_28_code
def yX0_isTree : MethodName := ⟨RX0, "isTree", "(LCrumbPictures;III[J)I"⟩
def dkwX0_isTree_1 : List UInt8 := [4, 172, 58, 5, 5, 172, 3, 172]
abbrev dktX0_isTree_1 : List UInt8 := dkwX0_isTree_1 ++ []
def dkwX0_isTree_0 : List UInt8 := [25, 4, 3, 42, 27, 28, 29, 182, 0, 94, 153, 0, 7, 10, 167, 0, 4, 9, 80, 167, 0, 11, 58, 5]
abbrev dktX0_isTree_0 : List UInt8 := dkwX0_isTree_0 ++ dktX0_isTree_1
theorem dksX0_isTree_0 : cX0_isTree.data.toList.drop 0 = dktX0_isTree_0 := by decide +kernel
theorem dksX0_isTree_1 : cX0_isTree.data.toList.drop 24 = dktX0_isTree_1 := dk_seg dksX0_isTree_0 24 rfl rfl
theorem dX0_isTree_0 : decode cX0_isTree 0 = .ok (.aload 4, 2) := dk_25 4 (dk_at dksX0_isTree_0 0 rfl rfl)
theorem dX0_isTree_2 : decode cX0_isTree 2 = .ok (.iconst 0, 1) := dk_3 (dk_at dksX0_isTree_0 2 rfl rfl)
theorem dX0_isTree_3 : decode cX0_isTree 3 = .ok (.aload_n 0, 1) := dk_42 (dk_at dksX0_isTree_0 3 rfl rfl)
theorem dX0_isTree_4 : decode cX0_isTree 4 = .ok (.iload_n 1, 1) := dk_27 (dk_at dksX0_isTree_0 4 rfl rfl)
theorem dX0_isTree_5 : decode cX0_isTree 5 = .ok (.iload_n 2, 1) := dk_28 (dk_at dksX0_isTree_0 5 rfl rfl)
theorem dX0_isTree_6 : decode cX0_isTree 6 = .ok (.iload_n 3, 1) := dk_29 (dk_at dksX0_isTree_0 6 rfl rfl)
theorem dX0_isTree_7 : decode cX0_isTree 7 = .ok (.invokevirtual 94, 3) := dk_182 0 94 (dk_at dksX0_isTree_0 7 rfl rfl)
theorem dX0_isTree_10 : decode cX0_isTree 10 = .ok (.ifCond .eq 7, 3) := dk_153 0 7 (dk_at dksX0_isTree_0 10 rfl rfl)
theorem dX0_isTree_13 : decode cX0_isTree 13 = .ok (.lconst 1, 1) := dk_10 (dk_at dksX0_isTree_0 13 rfl rfl)
theorem dX0_isTree_14 : decode cX0_isTree 14 = .ok (.goto 4, 3) := dk_167 0 4 (dk_at dksX0_isTree_0 14 rfl rfl)
theorem dX0_isTree_17 : decode cX0_isTree 17 = .ok (.lconst 0, 1) := dk_9 (dk_at dksX0_isTree_0 17 rfl rfl)
theorem dX0_isTree_18 : decode cX0_isTree 18 = .ok (.lastore, 1) := dk_80 (dk_at dksX0_isTree_0 18 rfl rfl)
theorem dX0_isTree_19 : decode cX0_isTree 19 = .ok (.goto 11, 3) := dk_167 0 11 (dk_at dksX0_isTree_0 19 rfl rfl)
theorem dX0_isTree_22 : decode cX0_isTree 22 = .ok (.astore 5, 2) := dk_58 5 (dk_at dksX0_isTree_0 22 rfl rfl)
theorem dX0_isTree_24 : decode cX0_isTree 24 = .ok (.iconst 1, 1) := dk_4 (dk_at dksX0_isTree_1 0 rfl rfl)
theorem dX0_isTree_25 : decode cX0_isTree 25 = .ok (.ireturn, 1) := dk_172 (dk_at dksX0_isTree_1 1 rfl rfl)
theorem dX0_isTree_26 : decode cX0_isTree 26 = .ok (.astore 5, 2) := dk_58 5 (dk_at dksX0_isTree_1 2 rfl rfl)
theorem dX0_isTree_28 : decode cX0_isTree 28 = .ok (.iconst 2, 1) := dk_5 (dk_at dksX0_isTree_1 4 rfl rfl)
theorem dX0_isTree_29 : decode cX0_isTree 29 = .ok (.ireturn, 1) := dk_172 (dk_at dksX0_isTree_1 5 rfl rfl)
theorem dX0_isTree_30 : decode cX0_isTree 30 = .ok (.iconst 0, 1) := dk_3 (dk_at dksX0_isTree_1 6 rfl rfl)
theorem dX0_isTree_31 : decode cX0_isTree 31 = .ok (.ireturn, 1) := dk_172 (dk_at dksX0_isTree_1 7 rfl rfl)
abbrev cX0_codeBit : ByteArray := method_29_code
def yX0_codeBit : MethodName := ⟨RX0, "codeBit", "(LCrumbPictures;I[J)I"⟩
def dkwX0_codeBit_0 : List UInt8 := [44, 3, 42, 27, 182, 0, 98, 133, 80, 167, 0, 6, 78, 4, 172, 3, 172]
abbrev dktX0_codeBit_0 : List UInt8 := dkwX0_codeBit_0 ++ []
theorem dksX0_codeBit_0 : cX0_codeBit.data.toList.drop 0 = dktX0_codeBit_0 := by decide +kernel
theorem dX0_codeBit_0 : decode cX0_codeBit 0 = .ok (.aload_n 2, 1) := dk_44 (dk_at dksX0_codeBit_0 0 rfl rfl)
theorem dX0_codeBit_1 : decode cX0_codeBit 1 = .ok (.iconst 0, 1) := dk_3 (dk_at dksX0_codeBit_0 1 rfl rfl)
theorem dX0_codeBit_2 : decode cX0_codeBit 2 = .ok (.aload_n 0, 1) := dk_42 (dk_at dksX0_codeBit_0 2 rfl rfl)
theorem dX0_codeBit_3 : decode cX0_codeBit 3 = .ok (.iload_n 1, 1) := dk_27 (dk_at dksX0_codeBit_0 3 rfl rfl)
theorem dX0_codeBit_4 : decode cX0_codeBit 4 = .ok (.invokevirtual 98, 3) := dk_182 0 98 (dk_at dksX0_codeBit_0 4 rfl rfl)
theorem dX0_codeBit_7 : decode cX0_codeBit 7 = .ok (.i2l, 1) := dk_133 (dk_at dksX0_codeBit_0 7 rfl rfl)
theorem dX0_codeBit_8 : decode cX0_codeBit 8 = .ok (.lastore, 1) := dk_80 (dk_at dksX0_codeBit_0 8 rfl rfl)
theorem dX0_codeBit_9 : decode cX0_codeBit 9 = .ok (.goto 6, 3) := dk_167 0 6 (dk_at dksX0_codeBit_0 9 rfl rfl)
theorem dX0_codeBit_12 : decode cX0_codeBit 12 = .ok (.astore_n 3, 1) := dk_78 (dk_at dksX0_codeBit_0 12 rfl rfl)
theorem dX0_codeBit_13 : decode cX0_codeBit 13 = .ok (.iconst 1, 1) := dk_4 (dk_at dksX0_codeBit_0 13 rfl rfl)
theorem dX0_codeBit_14 : decode cX0_codeBit 14 = .ok (.ireturn, 1) := dk_172 (dk_at dksX0_codeBit_0 14 rfl rfl)
theorem dX0_codeBit_15 : decode cX0_codeBit 15 = .ok (.iconst 0, 1) := dk_3 (dk_at dksX0_codeBit_0 15 rfl rfl)
theorem dX0_codeBit_16 : decode cX0_codeBit 16 = .ok (.ireturn, 1) := dk_172 (dk_at dksX0_codeBit_0 16 rfl rfl)
abbrev cX0_partByCode : ByteArray := method_30_code
def yX0_partByCode : MethodName := ⟨RX0, "partByCode", "(LCrumbPictures;I[J)I"⟩
def dkwX0_partByCode_0 : List UInt8 := [44, 3, 42, 27, 182, 0, 101, 133, 80, 167, 0, 6, 78, 4, 172, 3, 172]
abbrev dktX0_partByCode_0 : List UInt8 := dkwX0_partByCode_0 ++ []
theorem dksX0_partByCode_0 : cX0_partByCode.data.toList.drop 0 = dktX0_partByCode_0 := by decide +kernel
theorem dX0_partByCode_0 : decode cX0_partByCode 0 = .ok (.aload_n 2, 1) := dk_44 (dk_at dksX0_partByCode_0 0 rfl rfl)
theorem dX0_partByCode_1 : decode cX0_partByCode 1 = .ok (.iconst 0, 1) := dk_3 (dk_at dksX0_partByCode_0 1 rfl rfl)
theorem dX0_partByCode_2 : decode cX0_partByCode 2 = .ok (.aload_n 0, 1) := dk_42 (dk_at dksX0_partByCode_0 2 rfl rfl)
theorem dX0_partByCode_3 : decode cX0_partByCode 3 = .ok (.iload_n 1, 1) := dk_27 (dk_at dksX0_partByCode_0 3 rfl rfl)
theorem dX0_partByCode_4 : decode cX0_partByCode 4 = .ok (.invokevirtual 101, 3) := dk_182 0 101 (dk_at dksX0_partByCode_0 4 rfl rfl)
theorem dX0_partByCode_7 : decode cX0_partByCode 7 = .ok (.i2l, 1) := dk_133 (dk_at dksX0_partByCode_0 7 rfl rfl)
theorem dX0_partByCode_8 : decode cX0_partByCode 8 = .ok (.lastore, 1) := dk_80 (dk_at dksX0_partByCode_0 8 rfl rfl)
theorem dX0_partByCode_9 : decode cX0_partByCode 9 = .ok (.goto 6, 3) := dk_167 0 6 (dk_at dksX0_partByCode_0 9 rfl rfl)
theorem dX0_partByCode_12 : decode cX0_partByCode 12 = .ok (.astore_n 3, 1) := dk_78 (dk_at dksX0_partByCode_0 12 rfl rfl)
theorem dX0_partByCode_13 : decode cX0_partByCode 13 = .ok (.iconst 1, 1) := dk_4 (dk_at dksX0_partByCode_0 13 rfl rfl)
theorem dX0_partByCode_14 : decode cX0_partByCode 14 = .ok (.ireturn, 1) := dk_172 (dk_at dksX0_partByCode_0 14 rfl rfl)
theorem dX0_partByCode_15 : decode cX0_partByCode 15 = .ok (.iconst 0, 1) := dk_3 (dk_at dksX0_partByCode_0 15 rfl rfl)
theorem dX0_partByCode_16 : decode cX0_partByCode 16 = .ok (.ireturn, 1) := dk_172 (dk_at dksX0_partByCode_0 16 rfl rfl)
abbrev cX0_partsChanged : ByteArray := method_31_code
def yX0_partsChanged : MethodName := ⟨RX0, "partsChanged", "(LCrumbPictures;III[J)I"⟩
def dkwX0_partsChanged_1 : List UInt8 := [172]
abbrev dktX0_partsChanged_1 : List UInt8 := dkwX0_partsChanged_1 ++ []
def dkwX0_partsChanged_0 : List UInt8 := [25, 4, 3, 42, 27, 28, 29, 182, 0, 104, 133, 80, 167, 0, 11, 58, 5, 4, 172, 58, 5, 5, 172, 3]
abbrev dktX0_partsChanged_0 : List UInt8 := dkwX0_partsChanged_0 ++ dktX0_partsChanged_1
theorem dksX0_partsChanged_0 : cX0_partsChanged.data.toList.drop 0 = dktX0_partsChanged_0 := by decide +kernel
theorem dksX0_partsChanged_1 : cX0_partsChanged.data.toList.drop 24 = dktX0_partsChanged_1 := dk_seg dksX0_partsChanged_0 24 rfl rfl
theorem dX0_partsChanged_0 : decode cX0_partsChanged 0 = .ok (.aload 4, 2) := dk_25 4 (dk_at dksX0_partsChanged_0 0 rfl rfl)
theorem dX0_partsChanged_2 : decode cX0_partsChanged 2 = .ok (.iconst 0, 1) := dk_3 (dk_at dksX0_partsChanged_0 2 rfl rfl)
theorem dX0_partsChanged_3 : decode cX0_partsChanged 3 = .ok (.aload_n 0, 1) := dk_42 (dk_at dksX0_partsChanged_0 3 rfl rfl)
theorem dX0_partsChanged_4 : decode cX0_partsChanged 4 = .ok (.iload_n 1, 1) := dk_27 (dk_at dksX0_partsChanged_0 4 rfl rfl)
theorem dX0_partsChanged_5 : decode cX0_partsChanged 5 = .ok (.iload_n 2, 1) := dk_28 (dk_at dksX0_partsChanged_0 5 rfl rfl)
theorem dX0_partsChanged_6 : decode cX0_partsChanged 6 = .ok (.iload_n 3, 1) := dk_29 (dk_at dksX0_partsChanged_0 6 rfl rfl)
theorem dX0_partsChanged_7 : decode cX0_partsChanged 7 = .ok (.invokevirtual 104, 3) := dk_182 0 104 (dk_at dksX0_partsChanged_0 7 rfl rfl)
theorem dX0_partsChanged_10 : decode cX0_partsChanged 10 = .ok (.i2l, 1) := dk_133 (dk_at dksX0_partsChanged_0 10 rfl rfl)
theorem dX0_partsChanged_11 : decode cX0_partsChanged 11 = .ok (.lastore, 1) := dk_80 (dk_at dksX0_partsChanged_0 11 rfl rfl)
theorem dX0_partsChanged_12 : decode cX0_partsChanged 12 = .ok (.goto 11, 3) := dk_167 0 11 (dk_at dksX0_partsChanged_0 12 rfl rfl)
theorem dX0_partsChanged_15 : decode cX0_partsChanged 15 = .ok (.astore 5, 2) := dk_58 5 (dk_at dksX0_partsChanged_0 15 rfl rfl)
theorem dX0_partsChanged_17 : decode cX0_partsChanged 17 = .ok (.iconst 1, 1) := dk_4 (dk_at dksX0_partsChanged_0 17 rfl rfl)
theorem dX0_partsChanged_18 : decode cX0_partsChanged 18 = .ok (.ireturn, 1) := dk_172 (dk_at dksX0_partsChanged_0 18 rfl rfl)
theorem dX0_partsChanged_19 : decode cX0_partsChanged 19 = .ok (.astore 5, 2) := dk_58 5 (dk_at dksX0_partsChanged_0 19 rfl rfl)
theorem dX0_partsChanged_21 : decode cX0_partsChanged 21 = .ok (.iconst 2, 1) := dk_5 (dk_at dksX0_partsChanged_0 21 rfl rfl)
theorem dX0_partsChanged_22 : decode cX0_partsChanged 22 = .ok (.ireturn, 1) := dk_172 (dk_at dksX0_partsChanged_0 22 rfl rfl)
theorem dX0_partsChanged_23 : decode cX0_partsChanged 23 = .ok (.iconst 0, 1) := dk_3 (dk_at dksX0_partsChanged_0 23 rfl rfl)
theorem dX0_partsChanged_24 : decode cX0_partsChanged 24 = .ok (.ireturn, 1) := dk_172 (dk_at dksX0_partsChanged_1 0 rfl rfl)
abbrev cX0_codeLengthWith : ByteArray := method_32_code
def yX0_codeLengthWith : MethodName := ⟨RX0, "codeLengthWith", "(LCrumbPictures;I[J)I"⟩
def dkwX0_codeLengthWith_0 : List UInt8 := [44, 3, 42, 27, 182, 0, 107, 133, 80, 167, 0, 6, 78, 4, 172, 3, 172]
abbrev dktX0_codeLengthWith_0 : List UInt8 := dkwX0_codeLengthWith_0 ++ []
theorem dksX0_codeLengthWith_0 : cX0_codeLengthWith.data.toList.drop 0 = dktX0_codeLengthWith_0 := by decide +kernel
theorem dX0_codeLengthWith_0 : decode cX0_codeLengthWith 0 = .ok (.aload_n 2, 1) := dk_44 (dk_at dksX0_codeLengthWith_0 0 rfl rfl)
theorem dX0_codeLengthWith_1 : decode cX0_codeLengthWith 1 = .ok (.iconst 0, 1) := dk_3 (dk_at dksX0_codeLengthWith_0 1 rfl rfl)
theorem dX0_codeLengthWith_2 : decode cX0_codeLengthWith 2 = .ok (.aload_n 0, 1) := dk_42 (dk_at dksX0_codeLengthWith_0 2 rfl rfl)
theorem dX0_codeLengthWith_3 : decode cX0_codeLengthWith 3 = .ok (.iload_n 1, 1) := dk_27 (dk_at dksX0_codeLengthWith_0 3 rfl rfl)
theorem dX0_codeLengthWith_4 : decode cX0_codeLengthWith 4 = .ok (.invokevirtual 107, 3) := dk_182 0 107 (dk_at dksX0_codeLengthWith_0 4 rfl rfl)
theorem dX0_codeLengthWith_7 : decode cX0_codeLengthWith 7 = .ok (.i2l, 1) := dk_133 (dk_at dksX0_codeLengthWith_0 7 rfl rfl)
theorem dX0_codeLengthWith_8 : decode cX0_codeLengthWith 8 = .ok (.lastore, 1) := dk_80 (dk_at dksX0_codeLengthWith_0 8 rfl rfl)
theorem dX0_codeLengthWith_9 : decode cX0_codeLengthWith 9 = .ok (.goto 6, 3) := dk_167 0 6 (dk_at dksX0_codeLengthWith_0 9 rfl rfl)
theorem dX0_codeLengthWith_12 : decode cX0_codeLengthWith 12 = .ok (.astore_n 3, 1) := dk_78 (dk_at dksX0_codeLengthWith_0 12 rfl rfl)
theorem dX0_codeLengthWith_13 : decode cX0_codeLengthWith 13 = .ok (.iconst 1, 1) := dk_4 (dk_at dksX0_codeLengthWith_0 13 rfl rfl)
theorem dX0_codeLengthWith_14 : decode cX0_codeLengthWith 14 = .ok (.ireturn, 1) := dk_172 (dk_at dksX0_codeLengthWith_0 14 rfl rfl)
theorem dX0_codeLengthWith_15 : decode cX0_codeLengthWith 15 = .ok (.iconst 0, 1) := dk_3 (dk_at dksX0_codeLengthWith_0 15 rfl rfl)
theorem dX0_codeLengthWith_16 : decode cX0_codeLengthWith 16 = .ok (.ireturn, 1) := dk_172 (dk_at dksX0_codeLengthWith_0 16 rfl rfl)
abbrev cX0_codeLengthWithout : ByteArray := method_33_code
def yX0_codeLengthWithout : MethodName := ⟨RX0, "codeLengthWithout", "(LCrumbPictures;I[J)I"⟩
def dkwX0_codeLengthWithout_0 : List UInt8 := [44, 3, 42, 27, 182, 0, 110, 133, 80, 167, 0, 6, 78, 4, 172, 3, 172]
abbrev dktX0_codeLengthWithout_0 : List UInt8 := dkwX0_codeLengthWithout_0 ++ []
theorem dksX0_codeLengthWithout_0 : cX0_codeLengthWithout.data.toList.drop 0 = dktX0_codeLengthWithout_0 := by decide +kernel
theorem dX0_codeLengthWithout_0 : decode cX0_codeLengthWithout 0 = .ok (.aload_n 2, 1) := dk_44 (dk_at dksX0_codeLengthWithout_0 0 rfl rfl)
theorem dX0_codeLengthWithout_1 : decode cX0_codeLengthWithout 1 = .ok (.iconst 0, 1) := dk_3 (dk_at dksX0_codeLengthWithout_0 1 rfl rfl)
theorem dX0_codeLengthWithout_2 : decode cX0_codeLengthWithout 2 = .ok (.aload_n 0, 1) := dk_42 (dk_at dksX0_codeLengthWithout_0 2 rfl rfl)
theorem dX0_codeLengthWithout_3 : decode cX0_codeLengthWithout 3 = .ok (.iload_n 1, 1) := dk_27 (dk_at dksX0_codeLengthWithout_0 3 rfl rfl)
theorem dX0_codeLengthWithout_4 : decode cX0_codeLengthWithout 4 = .ok (.invokevirtual 110, 3) := dk_182 0 110 (dk_at dksX0_codeLengthWithout_0 4 rfl rfl)
theorem dX0_codeLengthWithout_7 : decode cX0_codeLengthWithout 7 = .ok (.i2l, 1) := dk_133 (dk_at dksX0_codeLengthWithout_0 7 rfl rfl)
theorem dX0_codeLengthWithout_8 : decode cX0_codeLengthWithout 8 = .ok (.lastore, 1) := dk_80 (dk_at dksX0_codeLengthWithout_0 8 rfl rfl)
theorem dX0_codeLengthWithout_9 : decode cX0_codeLengthWithout 9 = .ok (.goto 6, 3) := dk_167 0 6 (dk_at dksX0_codeLengthWithout_0 9 rfl rfl)
theorem dX0_codeLengthWithout_12 : decode cX0_codeLengthWithout 12 = .ok (.astore_n 3, 1) := dk_78 (dk_at dksX0_codeLengthWithout_0 12 rfl rfl)
theorem dX0_codeLengthWithout_13 : decode cX0_codeLengthWithout 13 = .ok (.iconst 1, 1) := dk_4 (dk_at dksX0_codeLengthWithout_0 13 rfl rfl)
theorem dX0_codeLengthWithout_14 : decode cX0_codeLengthWithout 14 = .ok (.ireturn, 1) := dk_172 (dk_at dksX0_codeLengthWithout_0 14 rfl rfl)
theorem dX0_codeLengthWithout_15 : decode cX0_codeLengthWithout 15 = .ok (.iconst 0, 1) := dk_3 (dk_at dksX0_codeLengthWithout_0 15 rfl rfl)
theorem dX0_codeLengthWithout_16 : decode cX0_codeLengthWithout 16 = .ok (.ireturn, 1) := dk_172 (dk_at dksX0_codeLengthWithout_0 16 rfl rfl)
theorem q105 : (Jvm.Cond.initialized "CrumbPicturesLaw") ∈ lw_all := lw_g (lw_at lw_m1 0 rfl) rfl
theorem q144 : (Jvm.Cond.classLink "CrumbPicturesLaw" (8 : Nat) "CrumbPictures") ∈ lw_all := lw_g (lw_at lw_m1 39 rfl) rfl
theorem q146 : (Jvm.Cond.methodLink "CrumbPicturesLaw" (113 : Nat) ({ cls := "CrumbPictures", name := "<init>", desc := "()V" } : Jvm.MethodName)) ∈ lw_all := lw_g (lw_at lw_m1 41 rfl) rfl
theorem q532 : (Jvm.Cond.methodLink "CrumbPicturesLaw" (139 : Nat) ({ cls := "CrumbPictures", name := "turnRight", desc := "()I" } : Jvm.MethodName)) ∈ lw_all := lw_g (lw_at lw_m2 187 rfl) rfl
theorem q644 : (Jvm.Cond.methodLink "CrumbPicturesLaw" (143 : Nat) ({ cls := "CrumbPictures", name := "mirror", desc := "()I" } : Jvm.MethodName)) ∈ lw_all := lw_g (lw_at lw_m3 59 rfl) rfl
theorem q648 : (Jvm.Cond.methodLink "CrumbPicturesLaw" (147 : Nat) ({ cls := "CrumbPictures", name := "invert", desc := "()I" } : Jvm.MethodName)) ∈ lw_all := lw_g (lw_at lw_m3 63 rfl) rfl
theorem q660 : (Jvm.Cond.methodLink "CrumbPicturesLaw" (154 : Nat) ({ cls := "CrumbPictures", name := "clearBuffer", desc := "()I" } : Jvm.MethodName)) ∈ lw_all := lw_g (lw_at lw_m3 75 rfl) rfl
theorem q950 : (Jvm.Cond.methodLink "CrumbPicturesLaw" (158 : Nat) ({ cls := "CrumbPictures", name := "firstError", desc := "()I" } : Jvm.MethodName)) ∈ lw_all := lw_g (lw_at lw_m4 125 rfl) rfl
theorem q1034 : (Jvm.Cond.methodLink "CrumbPicturesLaw" (166 : Nat) ({ cls := "CrumbPictures", name := "hasStopped", desc := "()Z" } : Jvm.MethodName)) ∈ lw_all := lw_g (lw_at lw_m4 209 rfl) rfl
theorem q1038 : (Jvm.Cond.methodLink "CrumbPicturesLaw" (180 : Nat) ({ cls := "CrumbPictures", name := "keep", desc := "()I" } : Jvm.MethodName)) ∈ lw_all := lw_g (lw_at lw_m4 213 rfl) rfl
theorem q1043 : (Jvm.Cond.methodLink "CrumbPicturesLaw" (187 : Nat) ({ cls := "CrumbPictures", name := "savedStates", desc := "()I" } : Jvm.MethodName)) ∈ lw_all := lw_g (lw_at lw_m4 218 rfl) rfl
theorem q1047 : (Jvm.Cond.methodLink "CrumbPicturesLaw" (195 : Nat) ({ cls := "CrumbPictures", name := "levels", desc := "()I" } : Jvm.MethodName)) ∈ lw_all := lw_g (lw_at lw_m4 222 rfl) rfl
theorem q1051 : (Jvm.Cond.methodLink "CrumbPicturesLaw" (199 : Nat) ({ cls := "CrumbPictures", name := "allShades", desc := "()I" } : Jvm.MethodName)) ∈ lw_all := lw_g (lw_at lw_m4 226 rfl) rfl
theorem q1055 : (Jvm.Cond.methodLink "CrumbPicturesLaw" (245 : Nat) ({ cls := "CrumbPictures", name := "codeLength", desc := "()I" } : Jvm.MethodName)) ∈ lw_all := lw_g (lw_at lw_m4 230 rfl) rfl
theorem q1172 : (Jvm.Cond.methodLink "CrumbPicturesLaw" (255 : Nat) ({ cls := "CrumbPictures", name := "zeroRuns", desc := "()I" } : Jvm.MethodName)) ∈ lw_all := lw_g (lw_at lw_m5 107 rfl) rfl
theorem q1182 : (Jvm.Cond.methodLink "CrumbPicturesLaw" (268 : Nat) ({ cls := "CrumbPictures", name := "zeroShare", desc := "()D" } : Jvm.MethodName)) ∈ lw_all := lw_g (lw_at lw_m5 117 rfl) rfl
theorem q1191 : (Jvm.Cond.methodLink "CrumbPicturesLaw" (273 : Nat) ({ cls := "CrumbPictures", name := "digest", desc := "()J" } : Jvm.MethodName)) ∈ lw_all := lw_g (lw_at lw_m5 126 rfl) rfl
theorem q1349 : (Jvm.Cond.methodLink "CrumbPicturesLaw" (117 : Nat) ({ cls := "CrumbPicturesLaw", name := "setShade", desc := "(LCrumbPictures;III[J)I" } : Jvm.MethodName)) ∈ lw_all := lw_g (lw_at lw_m6 44 rfl) rfl
theorem q1350 : (Jvm.Cond.static ({ cls := "CrumbPicturesLaw", name := "setShade", desc := "(LCrumbPictures;III[J)I" } : Jvm.MethodName)) ∈ lw_all := lw_g (lw_at lw_m6 45 rfl) rfl
theorem q1351 : (Jvm.Cond.codeWith ({ cls := "CrumbPicturesLaw", name := "setShade", desc := "(LCrumbPictures;III[J)I" } : Jvm.MethodName) method_3_code (6 : Nat) (Option.some Jvm.ClassFile.FieldType.int) [((0 : Nat), (12 : Nat), (15 : Nat), (13 : Nat)), ((0 : Nat), (12 : Nat), (19 : Nat), (15 : Nat))]) ∈ lw_all := lw_g (lw_at lw_m6 46 rfl) rfl
theorem q1352 : (Jvm.Cond.classLink "CrumbPicturesLaw" (13 : Nat) "java/lang/IndexOutOfBoundsException") ∈ lw_all := lw_g (lw_at lw_m6 47 rfl) rfl
theorem q1355 : (Jvm.Cond.classLink "CrumbPicturesLaw" (15 : Nat) "java/lang/IllegalArgumentException") ∈ lw_all := lw_g (lw_at lw_m6 50 rfl) rfl
theorem q1356 : (Jvm.Cond.methodLink "CrumbPicturesLaw" (7 : Nat) ({ cls := "CrumbPictures", name := "setShade", desc := "(III)I" } : Jvm.MethodName)) ∈ lw_all := lw_g (lw_at lw_m6 51 rfl) rfl
theorem q1384 : (Jvm.Cond.methodLink "CrumbPicturesLaw" (126 : Nat) ({ cls := "CrumbPicturesLaw", name := "fillRow", desc := "(LCrumbPictures;III[J)I" } : Jvm.MethodName)) ∈ lw_all := lw_g (lw_at lw_m6 79 rfl) rfl
theorem q1385 : (Jvm.Cond.static ({ cls := "CrumbPicturesLaw", name := "fillRow", desc := "(LCrumbPictures;III[J)I" } : Jvm.MethodName)) ∈ lw_all := lw_g (lw_at lw_m6 80 rfl) rfl
theorem q1386 : (Jvm.Cond.codeWith ({ cls := "CrumbPicturesLaw", name := "fillRow", desc := "(LCrumbPictures;III[J)I" } : Jvm.MethodName) method_4_code (6 : Nat) (Option.some Jvm.ClassFile.FieldType.int) [((0 : Nat), (12 : Nat), (15 : Nat), (13 : Nat)), ((0 : Nat), (12 : Nat), (19 : Nat), (15 : Nat)), ((0 : Nat), (12 : Nat), (23 : Nat), (20 : Nat))]) ∈ lw_all := lw_g (lw_at lw_m6 81 rfl) rfl
theorem q1387 : (Jvm.Cond.classLink "CrumbPicturesLaw" (20 : Nat) "java/lang/IllegalStateException") ∈ lw_all := lw_g (lw_at lw_m6 82 rfl) rfl
theorem q1388 : (Jvm.Cond.methodLink "CrumbPicturesLaw" (17 : Nat) ({ cls := "CrumbPictures", name := "fillRow", desc := "(III)I" } : Jvm.MethodName)) ∈ lw_all := lw_g (lw_at lw_m6 83 rfl) rfl
theorem q1414 : (Jvm.Cond.methodLink "CrumbPicturesLaw" (129 : Nat) ({ cls := "CrumbPicturesLaw", name := "setPart", desc := "(LCrumbPictures;III[J)I" } : Jvm.MethodName)) ∈ lw_all := lw_g (lw_at lw_m6 109 rfl) rfl
theorem q1415 : (Jvm.Cond.static ({ cls := "CrumbPicturesLaw", name := "setPart", desc := "(LCrumbPictures;III[J)I" } : Jvm.MethodName)) ∈ lw_all := lw_g (lw_at lw_m6 110 rfl) rfl
theorem q1416 : (Jvm.Cond.codeWith ({ cls := "CrumbPicturesLaw", name := "setPart", desc := "(LCrumbPictures;III[J)I" } : Jvm.MethodName) method_5_code (6 : Nat) (Option.some Jvm.ClassFile.FieldType.int) [((0 : Nat), (12 : Nat), (15 : Nat), (13 : Nat)), ((0 : Nat), (12 : Nat), (19 : Nat), (15 : Nat)), ((0 : Nat), (12 : Nat), (23 : Nat), (20 : Nat))]) ∈ lw_all := lw_g (lw_at lw_m6 111 rfl) rfl
theorem q1417 : (Jvm.Cond.methodLink "CrumbPicturesLaw" (22 : Nat) ({ cls := "CrumbPictures", name := "setPart", desc := "(III)I" } : Jvm.MethodName)) ∈ lw_all := lw_g (lw_at lw_m6 112 rfl) rfl
theorem q1427 : (Jvm.Cond.methodLink "CrumbPicturesLaw" (132 : Nat) ({ cls := "CrumbPicturesLaw", name := "dropCrumbs", desc := "(LCrumbPictures;I[J)I" } : Jvm.MethodName)) ∈ lw_all := lw_g (lw_at lw_m6 122 rfl) rfl
theorem q1428 : (Jvm.Cond.static ({ cls := "CrumbPicturesLaw", name := "dropCrumbs", desc := "(LCrumbPictures;I[J)I" } : Jvm.MethodName)) ∈ lw_all := lw_g (lw_at lw_m6 123 rfl) rfl
theorem q1429 : (Jvm.Cond.codeWith ({ cls := "CrumbPicturesLaw", name := "dropCrumbs", desc := "(LCrumbPictures;I[J)I" } : Jvm.MethodName) method_6_code (4 : Nat) (Option.some Jvm.ClassFile.FieldType.int) [((0 : Nat), (9 : Nat), (12 : Nat), (15 : Nat)), ((0 : Nat), (9 : Nat), (15 : Nat), (20 : Nat))]) ∈ lw_all := lw_g (lw_at lw_m6 124 rfl) rfl
theorem q1430 : (Jvm.Cond.methodLink "CrumbPicturesLaw" (25 : Nat) ({ cls := "CrumbPictures", name := "dropCrumbs", desc := "(I)I" } : Jvm.MethodName)) ∈ lw_all := lw_g (lw_at lw_m6 125 rfl) rfl
theorem q1434 : (Jvm.Cond.methodLink "CrumbPicturesLaw" (136 : Nat) ({ cls := "CrumbPicturesLaw", name := "setLevels", desc := "(LCrumbPictures;I[J)I" } : Jvm.MethodName)) ∈ lw_all := lw_g (lw_at lw_m6 129 rfl) rfl
theorem q1435 : (Jvm.Cond.static ({ cls := "CrumbPicturesLaw", name := "setLevels", desc := "(LCrumbPictures;I[J)I" } : Jvm.MethodName)) ∈ lw_all := lw_g (lw_at lw_m6 130 rfl) rfl
theorem q1436 : (Jvm.Cond.codeWith ({ cls := "CrumbPicturesLaw", name := "setLevels", desc := "(LCrumbPictures;I[J)I" } : Jvm.MethodName) method_7_code (4 : Nat) (Option.some Jvm.ClassFile.FieldType.int) [((0 : Nat), (9 : Nat), (12 : Nat), (15 : Nat))]) ∈ lw_all := lw_g (lw_at lw_m6 131 rfl) rfl
theorem q1437 : (Jvm.Cond.methodLink "CrumbPicturesLaw" (29 : Nat) ({ cls := "CrumbPictures", name := "setLevels", desc := "(I)I" } : Jvm.MethodName)) ∈ lw_all := lw_g (lw_at lw_m6 132 rfl) rfl
theorem q1448 : (Jvm.Cond.methodLink "CrumbPicturesLaw" (151 : Nat) ({ cls := "CrumbPicturesLaw", name := "append", desc := "(LCrumbPictures;I[J)I" } : Jvm.MethodName)) ∈ lw_all := lw_g (lw_at lw_m6 143 rfl) rfl
theorem q1449 : (Jvm.Cond.static ({ cls := "CrumbPicturesLaw", name := "append", desc := "(LCrumbPictures;I[J)I" } : Jvm.MethodName)) ∈ lw_all := lw_g (lw_at lw_m6 144 rfl) rfl
theorem q1450 : (Jvm.Cond.codeWith ({ cls := "CrumbPicturesLaw", name := "append", desc := "(LCrumbPictures;I[J)I" } : Jvm.MethodName) method_8_code (4 : Nat) (Option.some Jvm.ClassFile.FieldType.int) [((0 : Nat), (9 : Nat), (12 : Nat), (15 : Nat)), ((0 : Nat), (9 : Nat), (15 : Nat), (20 : Nat))]) ∈ lw_all := lw_g (lw_at lw_m6 145 rfl) rfl
theorem q1451 : (Jvm.Cond.methodLink "CrumbPicturesLaw" (32 : Nat) ({ cls := "CrumbPictures", name := "append", desc := "(I)I" } : Jvm.MethodName)) ∈ lw_all := lw_g (lw_at lw_m6 146 rfl) rfl
theorem q1472 : (Jvm.Cond.methodLink "CrumbPicturesLaw" (162 : Nat) ({ cls := "CrumbPicturesLaw", name := "work", desc := "(LCrumbPictures;[J)I" } : Jvm.MethodName)) ∈ lw_all := lw_g (lw_at lw_m6 167 rfl) rfl
theorem q1473 : (Jvm.Cond.static ({ cls := "CrumbPicturesLaw", name := "work", desc := "(LCrumbPictures;[J)I" } : Jvm.MethodName)) ∈ lw_all := lw_g (lw_at lw_m6 168 rfl) rfl
theorem q1474 : (Jvm.Cond.codeWith ({ cls := "CrumbPicturesLaw", name := "work", desc := "(LCrumbPictures;[J)I" } : Jvm.MethodName) method_9_code (3 : Nat) (Option.some Jvm.ClassFile.FieldType.int) [((0 : Nat), (8 : Nat), (11 : Nat), (15 : Nat))]) ∈ lw_all := lw_g (lw_at lw_m6 169 rfl) rfl
theorem q1475 : (Jvm.Cond.methodLink "CrumbPicturesLaw" (35 : Nat) ({ cls := "CrumbPictures", name := "work", desc := "()I" } : Jvm.MethodName)) ∈ lw_all := lw_g (lw_at lw_m6 170 rfl) rfl
theorem q1487 : (Jvm.Cond.methodLink "CrumbPicturesLaw" (171 : Nat) ({ cls := "CrumbPicturesLaw", name := "stoppedPart", desc := "(LCrumbPictures;[J)I" } : Jvm.MethodName)) ∈ lw_all := lw_g (lw_at lw_m6 182 rfl) rfl
theorem q1488 : (Jvm.Cond.static ({ cls := "CrumbPicturesLaw", name := "stoppedPart", desc := "(LCrumbPictures;[J)I" } : Jvm.MethodName)) ∈ lw_all := lw_g (lw_at lw_m6 183 rfl) rfl
theorem q1489 : (Jvm.Cond.codeWith ({ cls := "CrumbPicturesLaw", name := "stoppedPart", desc := "(LCrumbPictures;[J)I" } : Jvm.MethodName) method_10_code (3 : Nat) (Option.some Jvm.ClassFile.FieldType.int) [((0 : Nat), (8 : Nat), (11 : Nat), (20 : Nat))]) ∈ lw_all := lw_g (lw_at lw_m6 184 rfl) rfl
theorem q1490 : (Jvm.Cond.methodLink "CrumbPicturesLaw" (39 : Nat) ({ cls := "CrumbPictures", name := "stoppedPart", desc := "()I" } : Jvm.MethodName)) ∈ lw_all := lw_g (lw_at lw_m6 185 rfl) rfl
theorem q1494 : (Jvm.Cond.methodLink "CrumbPicturesLaw" (174 : Nat) ({ cls := "CrumbPicturesLaw", name := "whyStopped", desc := "(LCrumbPictures;[J)I" } : Jvm.MethodName)) ∈ lw_all := lw_g (lw_at lw_m6 189 rfl) rfl
theorem q1495 : (Jvm.Cond.static ({ cls := "CrumbPicturesLaw", name := "whyStopped", desc := "(LCrumbPictures;[J)I" } : Jvm.MethodName)) ∈ lw_all := lw_g (lw_at lw_m6 190 rfl) rfl
theorem q1496 : (Jvm.Cond.codeWith ({ cls := "CrumbPicturesLaw", name := "whyStopped", desc := "(LCrumbPictures;[J)I" } : Jvm.MethodName) method_11_code (3 : Nat) (Option.some Jvm.ClassFile.FieldType.int) [((0 : Nat), (8 : Nat), (11 : Nat), (20 : Nat))]) ∈ lw_all := lw_g (lw_at lw_m6 191 rfl) rfl
theorem q1497 : (Jvm.Cond.methodLink "CrumbPicturesLaw" (42 : Nat) ({ cls := "CrumbPictures", name := "whyStopped", desc := "()I" } : Jvm.MethodName)) ∈ lw_all := lw_g (lw_at lw_m6 192 rfl) rfl
theorem q1501 : (Jvm.Cond.methodLink "CrumbPicturesLaw" (177 : Nat) ({ cls := "CrumbPicturesLaw", name := "undo", desc := "(LCrumbPictures;[J)I" } : Jvm.MethodName)) ∈ lw_all := lw_g (lw_at lw_m6 196 rfl) rfl
theorem q1502 : (Jvm.Cond.static ({ cls := "CrumbPicturesLaw", name := "undo", desc := "(LCrumbPictures;[J)I" } : Jvm.MethodName)) ∈ lw_all := lw_g (lw_at lw_m6 197 rfl) rfl
theorem q1503 : (Jvm.Cond.codeWith ({ cls := "CrumbPicturesLaw", name := "undo", desc := "(LCrumbPictures;[J)I" } : Jvm.MethodName) method_12_code (3 : Nat) (Option.some Jvm.ClassFile.FieldType.int) [((0 : Nat), (8 : Nat), (11 : Nat), (20 : Nat))]) ∈ lw_all := lw_g (lw_at lw_m6 198 rfl) rfl
theorem q1504 : (Jvm.Cond.methodLink "CrumbPicturesLaw" (45 : Nat) ({ cls := "CrumbPictures", name := "undo", desc := "()I" } : Jvm.MethodName)) ∈ lw_all := lw_g (lw_at lw_m6 199 rfl) rfl
theorem q1512 : (Jvm.Cond.methodLink "CrumbPicturesLaw" (184 : Nat) ({ cls := "CrumbPicturesLaw", name := "restore", desc := "(LCrumbPictures;[J)I" } : Jvm.MethodName)) ∈ lw_all := lw_g (lw_at lw_m6 207 rfl) rfl
theorem q1513 : (Jvm.Cond.static ({ cls := "CrumbPicturesLaw", name := "restore", desc := "(LCrumbPictures;[J)I" } : Jvm.MethodName)) ∈ lw_all := lw_g (lw_at lw_m6 208 rfl) rfl
theorem q1514 : (Jvm.Cond.codeWith ({ cls := "CrumbPicturesLaw", name := "restore", desc := "(LCrumbPictures;[J)I" } : Jvm.MethodName) method_13_code (3 : Nat) (Option.some Jvm.ClassFile.FieldType.int) [((0 : Nat), (8 : Nat), (11 : Nat), (20 : Nat))]) ∈ lw_all := lw_g (lw_at lw_m6 209 rfl) rfl
theorem q1515 : (Jvm.Cond.methodLink "CrumbPicturesLaw" (48 : Nat) ({ cls := "CrumbPictures", name := "restore", desc := "()I" } : Jvm.MethodName)) ∈ lw_all := lw_g (lw_at lw_m6 210 rfl) rfl
theorem q1519 : (Jvm.Cond.methodLink "CrumbPicturesLaw" (191 : Nat) ({ cls := "CrumbPicturesLaw", name := "shade", desc := "(LCrumbPictures;II[J)I" } : Jvm.MethodName)) ∈ lw_all := lw_g (lw_at lw_m6 214 rfl) rfl
theorem q1520 : (Jvm.Cond.static ({ cls := "CrumbPicturesLaw", name := "shade", desc := "(LCrumbPictures;II[J)I" } : Jvm.MethodName)) ∈ lw_all := lw_g (lw_at lw_m6 215 rfl) rfl
theorem q1521 : (Jvm.Cond.codeWith ({ cls := "CrumbPicturesLaw", name := "shade", desc := "(LCrumbPictures;II[J)I" } : Jvm.MethodName) method_14_code (5 : Nat) (Option.some Jvm.ClassFile.FieldType.int) [((0 : Nat), (10 : Nat), (13 : Nat), (13 : Nat))]) ∈ lw_all := lw_g (lw_at lw_m6 216 rfl) rfl
theorem q1522 : (Jvm.Cond.methodLink "CrumbPicturesLaw" (51 : Nat) ({ cls := "CrumbPictures", name := "shade", desc := "(II)I" } : Jvm.MethodName)) ∈ lw_all := lw_g (lw_at lw_m6 217 rfl) rfl
theorem q1526 : (Jvm.Cond.methodLink "CrumbPicturesLaw" (203 : Nat) ({ cls := "CrumbPicturesLaw", name := "part", desc := "(LCrumbPictures;II[J)I" } : Jvm.MethodName)) ∈ lw_all := lw_g (lw_at lw_m6 221 rfl) rfl
theorem q1527 : (Jvm.Cond.static ({ cls := "CrumbPicturesLaw", name := "part", desc := "(LCrumbPictures;II[J)I" } : Jvm.MethodName)) ∈ lw_all := lw_g (lw_at lw_m6 222 rfl) rfl
theorem q1528 : (Jvm.Cond.codeWith ({ cls := "CrumbPicturesLaw", name := "part", desc := "(LCrumbPictures;II[J)I" } : Jvm.MethodName) method_15_code (5 : Nat) (Option.some Jvm.ClassFile.FieldType.int) [((0 : Nat), (10 : Nat), (13 : Nat), (13 : Nat))]) ∈ lw_all := lw_g (lw_at lw_m6 223 rfl) rfl
theorem q1529 : (Jvm.Cond.methodLink "CrumbPicturesLaw" (55 : Nat) ({ cls := "CrumbPictures", name := "part", desc := "(II)I" } : Jvm.MethodName)) ∈ lw_all := lw_g (lw_at lw_m6 224 rfl) rfl
theorem q1533 : (Jvm.Cond.methodLink "CrumbPicturesLaw" (206 : Nat) ({ cls := "CrumbPicturesLaw", name := "bandOf", desc := "(LCrumbPictures;II[J)I" } : Jvm.MethodName)) ∈ lw_all := lw_g (lw_at lw_m6 228 rfl) rfl
theorem q1534 : (Jvm.Cond.static ({ cls := "CrumbPicturesLaw", name := "bandOf", desc := "(LCrumbPictures;II[J)I" } : Jvm.MethodName)) ∈ lw_all := lw_g (lw_at lw_m6 229 rfl) rfl
theorem q1535 : (Jvm.Cond.codeWith ({ cls := "CrumbPicturesLaw", name := "bandOf", desc := "(LCrumbPictures;II[J)I" } : Jvm.MethodName) method_16_code (5 : Nat) (Option.some Jvm.ClassFile.FieldType.int) [((0 : Nat), (10 : Nat), (13 : Nat), (13 : Nat))]) ∈ lw_all := lw_g (lw_at lw_m6 230 rfl) rfl
theorem q1536 : (Jvm.Cond.methodLink "CrumbPicturesLaw" (58 : Nat) ({ cls := "CrumbPictures", name := "bandOf", desc := "(II)I" } : Jvm.MethodName)) ∈ lw_all := lw_g (lw_at lw_m6 231 rfl) rfl
theorem q1540 : (Jvm.Cond.methodLink "CrumbPicturesLaw" (209 : Nat) ({ cls := "CrumbPicturesLaw", name := "placeOf", desc := "(LCrumbPictures;II[J)I" } : Jvm.MethodName)) ∈ lw_all := lw_g (lw_at lw_m6 235 rfl) rfl
theorem q1541 : (Jvm.Cond.static ({ cls := "CrumbPicturesLaw", name := "placeOf", desc := "(LCrumbPictures;II[J)I" } : Jvm.MethodName)) ∈ lw_all := lw_g (lw_at lw_m6 236 rfl) rfl
theorem q1542 : (Jvm.Cond.codeWith ({ cls := "CrumbPicturesLaw", name := "placeOf", desc := "(LCrumbPictures;II[J)I" } : Jvm.MethodName) method_17_code (5 : Nat) (Option.some Jvm.ClassFile.FieldType.int) [((0 : Nat), (10 : Nat), (13 : Nat), (13 : Nat))]) ∈ lw_all := lw_g (lw_at lw_m6 237 rfl) rfl
theorem q1543 : (Jvm.Cond.methodLink "CrumbPicturesLaw" (61 : Nat) ({ cls := "CrumbPictures", name := "placeOf", desc := "(II)I" } : Jvm.MethodName)) ∈ lw_all := lw_g (lw_at lw_m6 238 rfl) rfl
theorem q1547 : (Jvm.Cond.methodLink "CrumbPicturesLaw" (212 : Nat) ({ cls := "CrumbPicturesLaw", name := "energy", desc := "(LCrumbPictures;I[J)I" } : Jvm.MethodName)) ∈ lw_all := lw_g (lw_at lw_m7 2 rfl) rfl
theorem q1548 : (Jvm.Cond.static ({ cls := "CrumbPicturesLaw", name := "energy", desc := "(LCrumbPictures;I[J)I" } : Jvm.MethodName)) ∈ lw_all := lw_g (lw_at lw_m7 3 rfl) rfl
theorem q1549 : (Jvm.Cond.codeWith ({ cls := "CrumbPicturesLaw", name := "energy", desc := "(LCrumbPictures;I[J)I" } : Jvm.MethodName) method_18_code (4 : Nat) (Option.some Jvm.ClassFile.FieldType.int) [((0 : Nat), (9 : Nat), (12 : Nat), (15 : Nat))]) ∈ lw_all := lw_g (lw_at lw_m7 4 rfl) rfl
theorem q1550 : (Jvm.Cond.methodLink "CrumbPicturesLaw" (64 : Nat) ({ cls := "CrumbPictures", name := "energy", desc := "(I)I" } : Jvm.MethodName)) ∈ lw_all := lw_g (lw_at lw_m7 5 rfl) rfl
theorem q1554 : (Jvm.Cond.methodLink "CrumbPicturesLaw" (215 : Nat) ({ cls := "CrumbPicturesLaw", name := "shadeBack", desc := "(LCrumbPictures;II[J)I" } : Jvm.MethodName)) ∈ lw_all := lw_g (lw_at lw_m7 9 rfl) rfl
theorem q1555 : (Jvm.Cond.static ({ cls := "CrumbPicturesLaw", name := "shadeBack", desc := "(LCrumbPictures;II[J)I" } : Jvm.MethodName)) ∈ lw_all := lw_g (lw_at lw_m7 10 rfl) rfl
theorem q1556 : (Jvm.Cond.codeWith ({ cls := "CrumbPicturesLaw", name := "shadeBack", desc := "(LCrumbPictures;II[J)I" } : Jvm.MethodName) method_19_code (5 : Nat) (Option.some Jvm.ClassFile.FieldType.int) [((0 : Nat), (10 : Nat), (13 : Nat), (13 : Nat))]) ∈ lw_all := lw_g (lw_at lw_m7 11 rfl) rfl
theorem q1557 : (Jvm.Cond.methodLink "CrumbPicturesLaw" (67 : Nat) ({ cls := "CrumbPictures", name := "shadeBack", desc := "(II)I" } : Jvm.MethodName)) ∈ lw_all := lw_g (lw_at lw_m7 12 rfl) rfl
theorem q1561 : (Jvm.Cond.methodLink "CrumbPicturesLaw" (218 : Nat) ({ cls := "CrumbPicturesLaw", name := "shadeByParts", desc := "(LCrumbPictures;II[J)I" } : Jvm.MethodName)) ∈ lw_all := lw_g (lw_at lw_m7 16 rfl) rfl
theorem q1562 : (Jvm.Cond.static ({ cls := "CrumbPicturesLaw", name := "shadeByParts", desc := "(LCrumbPictures;II[J)I" } : Jvm.MethodName)) ∈ lw_all := lw_g (lw_at lw_m7 17 rfl) rfl
theorem q1563 : (Jvm.Cond.codeWith ({ cls := "CrumbPicturesLaw", name := "shadeByParts", desc := "(LCrumbPictures;II[J)I" } : Jvm.MethodName) method_20_code (5 : Nat) (Option.some Jvm.ClassFile.FieldType.int) [((0 : Nat), (10 : Nat), (13 : Nat), (13 : Nat))]) ∈ lw_all := lw_g (lw_at lw_m7 18 rfl) rfl
theorem q1564 : (Jvm.Cond.methodLink "CrumbPicturesLaw" (70 : Nat) ({ cls := "CrumbPictures", name := "shadeByParts", desc := "(II)I" } : Jvm.MethodName)) ∈ lw_all := lw_g (lw_at lw_m7 19 rfl) rfl
theorem q1568 : (Jvm.Cond.methodLink "CrumbPicturesLaw" (221 : Nat) ({ cls := "CrumbPicturesLaw", name := "crumbs", desc := "(LCrumbPictures;I[J)I" } : Jvm.MethodName)) ∈ lw_all := lw_g (lw_at lw_m7 23 rfl) rfl
theorem q1569 : (Jvm.Cond.static ({ cls := "CrumbPicturesLaw", name := "crumbs", desc := "(LCrumbPictures;I[J)I" } : Jvm.MethodName)) ∈ lw_all := lw_g (lw_at lw_m7 24 rfl) rfl
theorem q1570 : (Jvm.Cond.codeWith ({ cls := "CrumbPicturesLaw", name := "crumbs", desc := "(LCrumbPictures;I[J)I" } : Jvm.MethodName) method_21_code (4 : Nat) (Option.some Jvm.ClassFile.FieldType.int) [((0 : Nat), (9 : Nat), (12 : Nat), (15 : Nat))]) ∈ lw_all := lw_g (lw_at lw_m7 25 rfl) rfl
theorem q1571 : (Jvm.Cond.methodLink "CrumbPicturesLaw" (73 : Nat) ({ cls := "CrumbPictures", name := "crumbs", desc := "(I)I" } : Jvm.MethodName)) ∈ lw_all := lw_g (lw_at lw_m7 26 rfl) rfl
theorem q1575 : (Jvm.Cond.methodLink "CrumbPicturesLaw" (224 : Nat) ({ cls := "CrumbPicturesLaw", name := "cost", desc := "(LCrumbPictures;I[J)I" } : Jvm.MethodName)) ∈ lw_all := lw_g (lw_at lw_m7 30 rfl) rfl
theorem q1576 : (Jvm.Cond.static ({ cls := "CrumbPicturesLaw", name := "cost", desc := "(LCrumbPictures;I[J)I" } : Jvm.MethodName)) ∈ lw_all := lw_g (lw_at lw_m7 31 rfl) rfl
theorem q1577 : (Jvm.Cond.codeWith ({ cls := "CrumbPicturesLaw", name := "cost", desc := "(LCrumbPictures;I[J)I" } : Jvm.MethodName) method_22_code (4 : Nat) (Option.some Jvm.ClassFile.FieldType.int) [((0 : Nat), (9 : Nat), (12 : Nat), (15 : Nat))]) ∈ lw_all := lw_g (lw_at lw_m7 32 rfl) rfl
theorem q1578 : (Jvm.Cond.methodLink "CrumbPicturesLaw" (76 : Nat) ({ cls := "CrumbPictures", name := "cost", desc := "(I)I" } : Jvm.MethodName)) ∈ lw_all := lw_g (lw_at lw_m7 33 rfl) rfl
theorem q1582 : (Jvm.Cond.methodLink "CrumbPicturesLaw" (227 : Nat) ({ cls := "CrumbPicturesLaw", name := "worst", desc := "(LCrumbPictures;I[J)I" } : Jvm.MethodName)) ∈ lw_all := lw_g (lw_at lw_m7 37 rfl) rfl
theorem q1583 : (Jvm.Cond.static ({ cls := "CrumbPicturesLaw", name := "worst", desc := "(LCrumbPictures;I[J)I" } : Jvm.MethodName)) ∈ lw_all := lw_g (lw_at lw_m7 38 rfl) rfl
theorem q1584 : (Jvm.Cond.codeWith ({ cls := "CrumbPicturesLaw", name := "worst", desc := "(LCrumbPictures;I[J)I" } : Jvm.MethodName) method_23_code (4 : Nat) (Option.some Jvm.ClassFile.FieldType.int) [((0 : Nat), (9 : Nat), (12 : Nat), (15 : Nat))]) ∈ lw_all := lw_g (lw_at lw_m7 39 rfl) rfl
theorem q1585 : (Jvm.Cond.methodLink "CrumbPicturesLaw" (79 : Nat) ({ cls := "CrumbPictures", name := "worst", desc := "(I)I" } : Jvm.MethodName)) ∈ lw_all := lw_g (lw_at lw_m7 40 rfl) rfl
theorem q1589 : (Jvm.Cond.methodLink "CrumbPicturesLaw" (230 : Nat) ({ cls := "CrumbPicturesLaw", name := "thresholdFor", desc := "(LCrumbPictures;I[J)I" } : Jvm.MethodName)) ∈ lw_all := lw_g (lw_at lw_m7 44 rfl) rfl
theorem q1590 : (Jvm.Cond.static ({ cls := "CrumbPicturesLaw", name := "thresholdFor", desc := "(LCrumbPictures;I[J)I" } : Jvm.MethodName)) ∈ lw_all := lw_g (lw_at lw_m7 45 rfl) rfl
theorem q1591 : (Jvm.Cond.codeWith ({ cls := "CrumbPicturesLaw", name := "thresholdFor", desc := "(LCrumbPictures;I[J)I" } : Jvm.MethodName) method_24_code (4 : Nat) (Option.some Jvm.ClassFile.FieldType.int) [((0 : Nat), (9 : Nat), (12 : Nat), (15 : Nat))]) ∈ lw_all := lw_g (lw_at lw_m7 46 rfl) rfl
theorem q1592 : (Jvm.Cond.methodLink "CrumbPicturesLaw" (82 : Nat) ({ cls := "CrumbPictures", name := "thresholdFor", desc := "(I)I" } : Jvm.MethodName)) ∈ lw_all := lw_g (lw_at lw_m7 47 rfl) rfl
theorem q1596 : (Jvm.Cond.methodLink "CrumbPicturesLaw" (233 : Nat) ({ cls := "CrumbPicturesLaw", name := "costOfPlanes", desc := "(LCrumbPictures;I[J)I" } : Jvm.MethodName)) ∈ lw_all := lw_g (lw_at lw_m7 51 rfl) rfl
theorem q1597 : (Jvm.Cond.static ({ cls := "CrumbPicturesLaw", name := "costOfPlanes", desc := "(LCrumbPictures;I[J)I" } : Jvm.MethodName)) ∈ lw_all := lw_g (lw_at lw_m7 52 rfl) rfl
theorem q1598 : (Jvm.Cond.codeWith ({ cls := "CrumbPicturesLaw", name := "costOfPlanes", desc := "(LCrumbPictures;I[J)I" } : Jvm.MethodName) method_25_code (4 : Nat) (Option.some Jvm.ClassFile.FieldType.int) [((0 : Nat), (9 : Nat), (12 : Nat), (15 : Nat))]) ∈ lw_all := lw_g (lw_at lw_m7 53 rfl) rfl
theorem q1599 : (Jvm.Cond.methodLink "CrumbPicturesLaw" (85 : Nat) ({ cls := "CrumbPictures", name := "costOfPlanes", desc := "(I)I" } : Jvm.MethodName)) ∈ lw_all := lw_g (lw_at lw_m7 54 rfl) rfl
theorem q1603 : (Jvm.Cond.methodLink "CrumbPicturesLaw" (236 : Nat) ({ cls := "CrumbPicturesLaw", name := "trees", desc := "(LCrumbPictures;I[J)I" } : Jvm.MethodName)) ∈ lw_all := lw_g (lw_at lw_m7 58 rfl) rfl
theorem q1604 : (Jvm.Cond.static ({ cls := "CrumbPicturesLaw", name := "trees", desc := "(LCrumbPictures;I[J)I" } : Jvm.MethodName)) ∈ lw_all := lw_g (lw_at lw_m7 59 rfl) rfl
theorem q1605 : (Jvm.Cond.codeWith ({ cls := "CrumbPicturesLaw", name := "trees", desc := "(LCrumbPictures;I[J)I" } : Jvm.MethodName) method_26_code (4 : Nat) (Option.some Jvm.ClassFile.FieldType.int) [((0 : Nat), (9 : Nat), (12 : Nat), (15 : Nat))]) ∈ lw_all := lw_g (lw_at lw_m7 60 rfl) rfl
theorem q1606 : (Jvm.Cond.methodLink "CrumbPicturesLaw" (88 : Nat) ({ cls := "CrumbPictures", name := "trees", desc := "(I)I" } : Jvm.MethodName)) ∈ lw_all := lw_g (lw_at lw_m7 61 rfl) rfl
theorem q1610 : (Jvm.Cond.methodLink "CrumbPicturesLaw" (239 : Nat) ({ cls := "CrumbPicturesLaw", name := "treesFromBelow", desc := "(LCrumbPictures;I[J)I" } : Jvm.MethodName)) ∈ lw_all := lw_g (lw_at lw_m7 65 rfl) rfl
theorem q1611 : (Jvm.Cond.static ({ cls := "CrumbPicturesLaw", name := "treesFromBelow", desc := "(LCrumbPictures;I[J)I" } : Jvm.MethodName)) ∈ lw_all := lw_g (lw_at lw_m7 66 rfl) rfl
theorem q1612 : (Jvm.Cond.codeWith ({ cls := "CrumbPicturesLaw", name := "treesFromBelow", desc := "(LCrumbPictures;I[J)I" } : Jvm.MethodName) method_27_code (4 : Nat) (Option.some Jvm.ClassFile.FieldType.int) [((0 : Nat), (9 : Nat), (12 : Nat), (15 : Nat))]) ∈ lw_all := lw_g (lw_at lw_m7 67 rfl) rfl
theorem q1613 : (Jvm.Cond.methodLink "CrumbPicturesLaw" (91 : Nat) ({ cls := "CrumbPictures", name := "treesFromBelow", desc := "(I)I" } : Jvm.MethodName)) ∈ lw_all := lw_g (lw_at lw_m7 68 rfl) rfl
theorem q1617 : (Jvm.Cond.methodLink "CrumbPicturesLaw" (242 : Nat) ({ cls := "CrumbPicturesLaw", name := "isTree", desc := "(LCrumbPictures;III[J)I" } : Jvm.MethodName)) ∈ lw_all := lw_g (lw_at lw_m7 72 rfl) rfl
theorem q1618 : (Jvm.Cond.static ({ cls := "CrumbPicturesLaw", name := "isTree", desc := "(LCrumbPictures;III[J)I" } : Jvm.MethodName)) ∈ lw_all := lw_g (lw_at lw_m7 73 rfl) rfl
theorem q1619 : (Jvm.Cond.codeWith ({ cls := "CrumbPicturesLaw", name := "isTree", desc := "(LCrumbPictures;III[J)I" } : Jvm.MethodName) method_28_code (6 : Nat) (Option.some Jvm.ClassFile.FieldType.int) [((0 : Nat), (19 : Nat), (22 : Nat), (13 : Nat)), ((0 : Nat), (19 : Nat), (26 : Nat), (15 : Nat))]) ∈ lw_all := lw_g (lw_at lw_m7 74 rfl) rfl
theorem q1620 : (Jvm.Cond.methodLink "CrumbPicturesLaw" (94 : Nat) ({ cls := "CrumbPictures", name := "isTree", desc := "(III)Z" } : Jvm.MethodName)) ∈ lw_all := lw_g (lw_at lw_m7 75 rfl) rfl
theorem q1625 : (Jvm.Cond.methodLink "CrumbPicturesLaw" (249 : Nat) ({ cls := "CrumbPicturesLaw", name := "codeBit", desc := "(LCrumbPictures;I[J)I" } : Jvm.MethodName)) ∈ lw_all := lw_g (lw_at lw_m7 80 rfl) rfl
theorem q1626 : (Jvm.Cond.static ({ cls := "CrumbPicturesLaw", name := "codeBit", desc := "(LCrumbPictures;I[J)I" } : Jvm.MethodName)) ∈ lw_all := lw_g (lw_at lw_m7 81 rfl) rfl
theorem q1627 : (Jvm.Cond.codeWith ({ cls := "CrumbPicturesLaw", name := "codeBit", desc := "(LCrumbPictures;I[J)I" } : Jvm.MethodName) method_29_code (4 : Nat) (Option.some Jvm.ClassFile.FieldType.int) [((0 : Nat), (9 : Nat), (12 : Nat), (13 : Nat))]) ∈ lw_all := lw_g (lw_at lw_m7 82 rfl) rfl
theorem q1628 : (Jvm.Cond.methodLink "CrumbPicturesLaw" (98 : Nat) ({ cls := "CrumbPictures", name := "codeBit", desc := "(I)I" } : Jvm.MethodName)) ∈ lw_all := lw_g (lw_at lw_m7 83 rfl) rfl
theorem q1633 : (Jvm.Cond.methodLink "CrumbPicturesLaw" (252 : Nat) ({ cls := "CrumbPicturesLaw", name := "partByCode", desc := "(LCrumbPictures;I[J)I" } : Jvm.MethodName)) ∈ lw_all := lw_g (lw_at lw_m7 88 rfl) rfl
theorem q1634 : (Jvm.Cond.static ({ cls := "CrumbPicturesLaw", name := "partByCode", desc := "(LCrumbPictures;I[J)I" } : Jvm.MethodName)) ∈ lw_all := lw_g (lw_at lw_m7 89 rfl) rfl
theorem q1635 : (Jvm.Cond.codeWith ({ cls := "CrumbPicturesLaw", name := "partByCode", desc := "(LCrumbPictures;I[J)I" } : Jvm.MethodName) method_30_code (4 : Nat) (Option.some Jvm.ClassFile.FieldType.int) [((0 : Nat), (9 : Nat), (12 : Nat), (13 : Nat))]) ∈ lw_all := lw_g (lw_at lw_m7 90 rfl) rfl
theorem q1636 : (Jvm.Cond.methodLink "CrumbPicturesLaw" (101 : Nat) ({ cls := "CrumbPictures", name := "partByCode", desc := "(I)I" } : Jvm.MethodName)) ∈ lw_all := lw_g (lw_at lw_m7 91 rfl) rfl
theorem q1640 : (Jvm.Cond.methodLink "CrumbPicturesLaw" (259 : Nat) ({ cls := "CrumbPicturesLaw", name := "partsChanged", desc := "(LCrumbPictures;III[J)I" } : Jvm.MethodName)) ∈ lw_all := lw_g (lw_at lw_m7 95 rfl) rfl
theorem q1641 : (Jvm.Cond.static ({ cls := "CrumbPicturesLaw", name := "partsChanged", desc := "(LCrumbPictures;III[J)I" } : Jvm.MethodName)) ∈ lw_all := lw_g (lw_at lw_m7 96 rfl) rfl
theorem q1642 : (Jvm.Cond.codeWith ({ cls := "CrumbPicturesLaw", name := "partsChanged", desc := "(LCrumbPictures;III[J)I" } : Jvm.MethodName) method_31_code (6 : Nat) (Option.some Jvm.ClassFile.FieldType.int) [((0 : Nat), (12 : Nat), (15 : Nat), (13 : Nat)), ((0 : Nat), (12 : Nat), (19 : Nat), (15 : Nat))]) ∈ lw_all := lw_g (lw_at lw_m7 97 rfl) rfl
theorem q1643 : (Jvm.Cond.methodLink "CrumbPicturesLaw" (104 : Nat) ({ cls := "CrumbPictures", name := "partsChanged", desc := "(III)I" } : Jvm.MethodName)) ∈ lw_all := lw_g (lw_at lw_m7 98 rfl) rfl
theorem q1647 : (Jvm.Cond.methodLink "CrumbPicturesLaw" (262 : Nat) ({ cls := "CrumbPicturesLaw", name := "codeLengthWith", desc := "(LCrumbPictures;I[J)I" } : Jvm.MethodName)) ∈ lw_all := lw_g (lw_at lw_m7 102 rfl) rfl
theorem q1648 : (Jvm.Cond.static ({ cls := "CrumbPicturesLaw", name := "codeLengthWith", desc := "(LCrumbPictures;I[J)I" } : Jvm.MethodName)) ∈ lw_all := lw_g (lw_at lw_m7 103 rfl) rfl
theorem q1649 : (Jvm.Cond.codeWith ({ cls := "CrumbPicturesLaw", name := "codeLengthWith", desc := "(LCrumbPictures;I[J)I" } : Jvm.MethodName) method_32_code (4 : Nat) (Option.some Jvm.ClassFile.FieldType.int) [((0 : Nat), (9 : Nat), (12 : Nat), (15 : Nat))]) ∈ lw_all := lw_g (lw_at lw_m7 104 rfl) rfl
theorem q1650 : (Jvm.Cond.methodLink "CrumbPicturesLaw" (107 : Nat) ({ cls := "CrumbPictures", name := "codeLengthWith", desc := "(I)I" } : Jvm.MethodName)) ∈ lw_all := lw_g (lw_at lw_m7 105 rfl) rfl
theorem q1654 : (Jvm.Cond.methodLink "CrumbPicturesLaw" (265 : Nat) ({ cls := "CrumbPicturesLaw", name := "codeLengthWithout", desc := "(LCrumbPictures;I[J)I" } : Jvm.MethodName)) ∈ lw_all := lw_g (lw_at lw_m7 109 rfl) rfl
theorem q1655 : (Jvm.Cond.static ({ cls := "CrumbPicturesLaw", name := "codeLengthWithout", desc := "(LCrumbPictures;I[J)I" } : Jvm.MethodName)) ∈ lw_all := lw_g (lw_at lw_m7 110 rfl) rfl
theorem q1656 : (Jvm.Cond.codeWith ({ cls := "CrumbPicturesLaw", name := "codeLengthWithout", desc := "(LCrumbPictures;I[J)I" } : Jvm.MethodName) method_33_code (4 : Nat) (Option.some Jvm.ClassFile.FieldType.int) [((0 : Nat), (9 : Nat), (12 : Nat), (15 : Nat))]) ∈ lw_all := lw_g (lw_at lw_m7 111 rfl) rfl
theorem q1657 : (Jvm.Cond.methodLink "CrumbPicturesLaw" (110 : Nat) ({ cls := "CrumbPictures", name := "codeLengthWithout", desc := "(I)I" } : Jvm.MethodName)) ∈ lw_all := lw_g (lw_at lw_m7 112 rfl) rfl
theorem q1661 : (Jvm.Cond.classLink "CrumbPicturesLaw" (114 : Nat) "CrumbPicturesModel") ∈ lw_all := lw_g (lw_at lw_m7 116 rfl) rfl
theorem q1663 : (Jvm.Cond.methodLink "CrumbPicturesLaw" (116 : Nat) ({ cls := "CrumbPicturesModel", name := "<init>", desc := "()V" } : Jvm.MethodName)) ∈ lw_all := lw_g (lw_at lw_m7 118 rfl) rfl
theorem q1731 : (Jvm.Cond.methodLink "CrumbPicturesLaw" (123 : Nat) ({ cls := "CrumbPicturesModel", name := "thrown", desc := "()I" } : Jvm.MethodName)) ∈ lw_all := lw_g (lw_at lw_m7 186 rfl) rfl
theorem q1735 : (Jvm.Cond.methodLink "CrumbPicturesLaw" (179 : Nat) ({ cls := "CrumbPicturesModel", name := "undo", desc := "()I" } : Jvm.MethodName)) ∈ lw_all := lw_g (lw_at lw_m7 190 rfl) rfl
theorem q1743 : (Jvm.Cond.methodLink "CrumbPicturesLaw" (183 : Nat) ({ cls := "CrumbPicturesModel", name := "keep", desc := "()I" } : Jvm.MethodName)) ∈ lw_all := lw_g (lw_at lw_m7 198 rfl) rfl
theorem q1751 : (Jvm.Cond.methodLink "CrumbPicturesLaw" (186 : Nat) ({ cls := "CrumbPicturesModel", name := "restore", desc := "()I" } : Jvm.MethodName)) ∈ lw_all := lw_g (lw_at lw_m7 206 rfl) rfl
theorem q1759 : (Jvm.Cond.methodLink "CrumbPicturesLaw" (190 : Nat) ({ cls := "CrumbPicturesModel", name := "savedStates", desc := "()I" } : Jvm.MethodName)) ∈ lw_all := lw_g (lw_at lw_m7 214 rfl) rfl
theorem q1763 : (Jvm.Cond.methodLink "CrumbPicturesLaw" (223 : Nat) ({ cls := "CrumbPicturesModel", name := "crumbs", desc := "(I)I" } : Jvm.MethodName)) ∈ lw_all := lw_g (lw_at lw_m7 218 rfl) rfl
theorem q1802 : (Jvm.Cond.methodLink "CrumbPicturesLaw" (226 : Nat) ({ cls := "CrumbPicturesModel", name := "cost", desc := "(I)I" } : Jvm.MethodName)) ∈ lw_all := lw_g (lw_at lw_m8 17 rfl) rfl
theorem q1829 : (Jvm.Cond.methodLink "CrumbPicturesLaw" (229 : Nat) ({ cls := "CrumbPicturesModel", name := "worst", desc := "(I)I" } : Jvm.MethodName)) ∈ lw_all := lw_g (lw_at lw_m8 44 rfl) rfl
theorem q1837 : (Jvm.Cond.methodLink "CrumbPicturesLaw" (232 : Nat) ({ cls := "CrumbPicturesModel", name := "thresholdFor", desc := "(I)I" } : Jvm.MethodName)) ∈ lw_all := lw_g (lw_at lw_m8 52 rfl) rfl
theorem q1845 : (Jvm.Cond.methodLink "CrumbPicturesLaw" (235 : Nat) ({ cls := "CrumbPicturesModel", name := "costOfPlanes", desc := "(I)I" } : Jvm.MethodName)) ∈ lw_all := lw_g (lw_at lw_m8 60 rfl) rfl
theorem q1853 : (Jvm.Cond.methodLink "CrumbPicturesLaw" (238 : Nat) ({ cls := "CrumbPicturesModel", name := "trees", desc := "(I)I" } : Jvm.MethodName)) ∈ lw_all := lw_g (lw_at lw_m8 68 rfl) rfl
theorem q1865 : (Jvm.Cond.methodLink "CrumbPicturesLaw" (241 : Nat) ({ cls := "CrumbPicturesModel", name := "treesFromBelow", desc := "(I)I" } : Jvm.MethodName)) ∈ lw_all := lw_g (lw_at lw_m8 80 rfl) rfl
theorem q1869 : (Jvm.Cond.methodLink "CrumbPicturesLaw" (244 : Nat) ({ cls := "CrumbPicturesModel", name := "isTree", desc := "(III)Z" } : Jvm.MethodName)) ∈ lw_all := lw_g (lw_at lw_m8 84 rfl) rfl
theorem q1876 : (Jvm.Cond.methodLink "CrumbPicturesLaw" (248 : Nat) ({ cls := "CrumbPicturesModel", name := "codeLength", desc := "()I" } : Jvm.MethodName)) ∈ lw_all := lw_g (lw_at lw_m8 91 rfl) rfl
theorem q1902 : (Jvm.Cond.methodLink "CrumbPicturesLaw" (251 : Nat) ({ cls := "CrumbPicturesModel", name := "codeBit", desc := "(I)I" } : Jvm.MethodName)) ∈ lw_all := lw_g (lw_at lw_m8 117 rfl) rfl
theorem q1913 : (Jvm.Cond.methodLink "CrumbPicturesLaw" (254 : Nat) ({ cls := "CrumbPicturesModel", name := "partByCode", desc := "(I)I" } : Jvm.MethodName)) ∈ lw_all := lw_g (lw_at lw_m8 128 rfl) rfl
theorem q1917 : (Jvm.Cond.methodLink "CrumbPicturesLaw" (258 : Nat) ({ cls := "CrumbPicturesModel", name := "zeroRuns", desc := "()I" } : Jvm.MethodName)) ∈ lw_all := lw_g (lw_at lw_m8 132 rfl) rfl
theorem q1925 : (Jvm.Cond.methodLink "CrumbPicturesLaw" (264 : Nat) ({ cls := "CrumbPicturesModel", name := "codeLengthWith", desc := "(I)I" } : Jvm.MethodName)) ∈ lw_all := lw_g (lw_at lw_m8 140 rfl) rfl
theorem q1933 : (Jvm.Cond.methodLink "CrumbPicturesLaw" (267 : Nat) ({ cls := "CrumbPicturesModel", name := "codeLengthWithout", desc := "(I)I" } : Jvm.MethodName)) ∈ lw_all := lw_g (lw_at lw_m8 148 rfl) rfl
theorem q1941 : (Jvm.Cond.methodLink "CrumbPicturesLaw" (272 : Nat) ({ cls := "CrumbPicturesModel", name := "zeroShare", desc := "()D" } : Jvm.MethodName)) ∈ lw_all := lw_g (lw_at lw_m8 156 rfl) rfl
theorem q1950 : (Jvm.Cond.methodLink "CrumbPicturesLaw" (122 : Nat) ({ cls := "CrumbPicturesModel", name := "setShade", desc := "(III)I" } : Jvm.MethodName)) ∈ lw_all := lw_g (lw_at lw_m8 165 rfl) rfl
theorem q1954 : (Jvm.Cond.methodLink "CrumbPicturesLaw" (128 : Nat) ({ cls := "CrumbPicturesModel", name := "fillRow", desc := "(III)I" } : Jvm.MethodName)) ∈ lw_all := lw_g (lw_at lw_m8 169 rfl) rfl
theorem q1958 : (Jvm.Cond.methodLink "CrumbPicturesLaw" (131 : Nat) ({ cls := "CrumbPicturesModel", name := "setPart", desc := "(III)I" } : Jvm.MethodName)) ∈ lw_all := lw_g (lw_at lw_m8 173 rfl) rfl
theorem q1970 : (Jvm.Cond.methodLink "CrumbPicturesLaw" (135 : Nat) ({ cls := "CrumbPicturesModel", name := "dropCrumbs", desc := "(I)I" } : Jvm.MethodName)) ∈ lw_all := lw_g (lw_at lw_m8 185 rfl) rfl
theorem q1974 : (Jvm.Cond.methodLink "CrumbPicturesLaw" (138 : Nat) ({ cls := "CrumbPicturesModel", name := "setLevels", desc := "(I)I" } : Jvm.MethodName)) ∈ lw_all := lw_g (lw_at lw_m8 189 rfl) rfl
theorem q1978 : (Jvm.Cond.methodLink "CrumbPicturesLaw" (142 : Nat) ({ cls := "CrumbPicturesModel", name := "turnRight", desc := "()I" } : Jvm.MethodName)) ∈ lw_all := lw_g (lw_at lw_m8 193 rfl) rfl
theorem q1986 : (Jvm.Cond.methodLink "CrumbPicturesLaw" (146 : Nat) ({ cls := "CrumbPicturesModel", name := "mirror", desc := "()I" } : Jvm.MethodName)) ∈ lw_all := lw_g (lw_at lw_m8 201 rfl) rfl
theorem q1994 : (Jvm.Cond.methodLink "CrumbPicturesLaw" (150 : Nat) ({ cls := "CrumbPicturesModel", name := "invert", desc := "()I" } : Jvm.MethodName)) ∈ lw_all := lw_g (lw_at lw_m8 209 rfl) rfl
theorem q2002 : (Jvm.Cond.methodLink "CrumbPicturesLaw" (194 : Nat) ({ cls := "CrumbPicturesModel", name := "shade", desc := "(II)I" } : Jvm.MethodName)) ∈ lw_all := lw_g (lw_at lw_m8 217 rfl) rfl
theorem q2006 : (Jvm.Cond.methodLink "CrumbPicturesLaw" (198 : Nat) ({ cls := "CrumbPicturesModel", name := "levels", desc := "()I" } : Jvm.MethodName)) ∈ lw_all := lw_g (lw_at lw_m8 221 rfl) rfl
theorem q2010 : (Jvm.Cond.methodLink "CrumbPicturesLaw" (202 : Nat) ({ cls := "CrumbPicturesModel", name := "allShades", desc := "()I" } : Jvm.MethodName)) ∈ lw_all := lw_g (lw_at lw_m8 225 rfl) rfl
theorem q2014 : (Jvm.Cond.methodLink "CrumbPicturesLaw" (205 : Nat) ({ cls := "CrumbPicturesModel", name := "part", desc := "(II)I" } : Jvm.MethodName)) ∈ lw_all := lw_g (lw_at lw_m8 229 rfl) rfl
theorem q2018 : (Jvm.Cond.methodLink "CrumbPicturesLaw" (208 : Nat) ({ cls := "CrumbPicturesModel", name := "bandOf", desc := "(II)I" } : Jvm.MethodName)) ∈ lw_all := lw_g (lw_at lw_m8 233 rfl) rfl
theorem q2022 : (Jvm.Cond.methodLink "CrumbPicturesLaw" (211 : Nat) ({ cls := "CrumbPicturesModel", name := "placeOf", desc := "(II)I" } : Jvm.MethodName)) ∈ lw_all := lw_g (lw_at lw_m8 237 rfl) rfl
theorem q2029 : (Jvm.Cond.methodLink "CrumbPicturesLaw" (214 : Nat) ({ cls := "CrumbPicturesModel", name := "energy", desc := "(I)I" } : Jvm.MethodName)) ∈ lw_all := lw_g (lw_at lw_m9 4 rfl) rfl
theorem q2037 : (Jvm.Cond.methodLink "CrumbPicturesLaw" (217 : Nat) ({ cls := "CrumbPicturesModel", name := "shadeBack", desc := "(II)I" } : Jvm.MethodName)) ∈ lw_all := lw_g (lw_at lw_m9 12 rfl) rfl
theorem q2045 : (Jvm.Cond.methodLink "CrumbPicturesLaw" (220 : Nat) ({ cls := "CrumbPicturesModel", name := "shadeByParts", desc := "(II)I" } : Jvm.MethodName)) ∈ lw_all := lw_g (lw_at lw_m9 20 rfl) rfl
theorem q2049 : (Jvm.Cond.methodLink "CrumbPicturesLaw" (261 : Nat) ({ cls := "CrumbPicturesModel", name := "partsChanged", desc := "(III)I" } : Jvm.MethodName)) ∈ lw_all := lw_g (lw_at lw_m9 24 rfl) rfl
theorem q2057 : (Jvm.Cond.methodLink "CrumbPicturesLaw" (153 : Nat) ({ cls := "CrumbPicturesModel", name := "append", desc := "(I)I" } : Jvm.MethodName)) ∈ lw_all := lw_g (lw_at lw_m9 32 rfl) rfl
theorem q2061 : (Jvm.Cond.methodLink "CrumbPicturesLaw" (157 : Nat) ({ cls := "CrumbPicturesModel", name := "clearBuffer", desc := "()I" } : Jvm.MethodName)) ∈ lw_all := lw_g (lw_at lw_m9 36 rfl) rfl
theorem q2065 : (Jvm.Cond.methodLink "CrumbPicturesLaw" (161 : Nat) ({ cls := "CrumbPicturesModel", name := "firstError", desc := "()I" } : Jvm.MethodName)) ∈ lw_all := lw_g (lw_at lw_m9 40 rfl) rfl
theorem q2097 : (Jvm.Cond.methodLink "CrumbPicturesLaw" (165 : Nat) ({ cls := "CrumbPicturesModel", name := "work", desc := "()I" } : Jvm.MethodName)) ∈ lw_all := lw_g (lw_at lw_m9 72 rfl) rfl
theorem q2105 : (Jvm.Cond.methodLink "CrumbPicturesLaw" (170 : Nat) ({ cls := "CrumbPicturesModel", name := "hasStopped", desc := "()Z" } : Jvm.MethodName)) ∈ lw_all := lw_g (lw_at lw_m9 80 rfl) rfl
theorem q2109 : (Jvm.Cond.methodLink "CrumbPicturesLaw" (173 : Nat) ({ cls := "CrumbPicturesModel", name := "stoppedPart", desc := "()I" } : Jvm.MethodName)) ∈ lw_all := lw_g (lw_at lw_m9 84 rfl) rfl
theorem q2113 : (Jvm.Cond.methodLink "CrumbPicturesLaw" (176 : Nat) ({ cls := "CrumbPicturesModel", name := "whyStopped", desc := "()I" } : Jvm.MethodName)) ∈ lw_all := lw_g (lw_at lw_m9 88 rfl) rfl
theorem q2117 : (Jvm.Cond.methodLink "CrumbPicturesLaw" (277 : Nat) ({ cls := "CrumbPicturesModel", name := "digest", desc := "()J" } : Jvm.MethodName)) ∈ lw_all := lw_g (lw_at lw_m9 92 rfl) rfl
/-! the law's own entry -/
set_option maxRecDepth 100000
abbrev cL_law : ByteArray := code
def dkwL_law_92 : List UInt8 := [182, 1, 17, 44, 182, 1, 21, 148, 153, 0, 5, 3, 172, 132, 4, 4, 167, 247, 6, 4, 172]
abbrev dktL_law_92 : List UInt8 := dkwL_law_92 ++ []
def dkwL_law_91 : List UInt8 := [24, 5, 24, 5, 151, 153, 0, 11, 24, 7, 24, 7, 151, 154, 0, 5, 3, 172, 167, 0, 17, 43]
abbrev dktL_law_91 : List UInt8 := dkwL_law_91 ++ dktL_law_92
def dkwL_law_90 : List UInt8 := [167, 0, 58, 43, 182, 1, 12, 57, 5, 44, 182, 1, 16, 57, 7, 24, 5, 24, 7, 151, 153, 0, 21]
abbrev dktL_law_90 : List UInt8 := dkwL_law_90 ++ dktL_law_91
def dkwL_law_89 : List UInt8 := [21, 5, 159, 0, 5, 3, 172, 21, 5, 154, 0, 15, 45, 3, 47, 21, 6, 133, 148, 153, 0, 5, 3, 172]
abbrev dktL_law_89 : List UInt8 := dkwL_law_89 ++ dktL_law_90
def dkwL_law_88 : List UInt8 := [46, 45, 184, 1, 9, 54, 5, 44, 42, 21, 4, 4, 96, 46, 182, 1, 11, 54, 6, 44, 182, 0, 123]
abbrev dktL_law_88 : List UInt8 := dkwL_law_88 ++ dktL_law_89
def dkwL_law_87 : List UInt8 := [154, 0, 15, 45, 3, 47, 21, 6, 133, 148, 153, 0, 5, 3, 172, 167, 0, 114, 43, 42, 21, 4, 4, 96]
abbrev dktL_law_87 : List UInt8 := dkwL_law_87 ++ dktL_law_88
def dkwL_law_86 : List UInt8 := [21, 4, 4, 96, 46, 182, 1, 8, 54, 6, 44, 182, 0, 123, 21, 5, 159, 0, 5, 3, 172, 21, 5]
abbrev dktL_law_86 : List UInt8 := dkwL_law_86 ++ dktL_law_87
def dkwL_law_85 : List UInt8 := [148, 153, 0, 5, 3, 172, 167, 0, 170, 43, 42, 21, 4, 4, 96, 46, 45, 184, 1, 6, 54, 5, 44, 42]
abbrev dktL_law_85 : List UInt8 := dkwL_law_85 ++ dktL_law_86
def dkwL_law_84 : List UInt8 := [54, 6, 44, 182, 0, 123, 21, 5, 159, 0, 5, 3, 172, 21, 5, 154, 0, 15, 45, 3, 47, 21, 6, 133]
abbrev dktL_law_84 : List UInt8 := dkwL_law_84 ++ dktL_law_85
def dkwL_law_83 : List UInt8 := [54, 5, 44, 42, 21, 4, 4, 96, 46, 42, 21, 4, 5, 96, 46, 42, 21, 4, 6, 96, 46, 182, 1, 5]
abbrev dktL_law_83 : List UInt8 := dkwL_law_83 ++ dktL_law_84
def dkwL_law_82 : List UInt8 := [172, 43, 42, 21, 4, 4, 96, 46, 42, 21, 4, 5, 96, 46, 42, 21, 4, 6, 96, 46, 45, 184, 1, 3]
abbrev dktL_law_82 : List UInt8 := dkwL_law_82 ++ dktL_law_83
def dkwL_law_81 : List UInt8 := [21, 6, 133, 148, 153, 0, 5, 3, 172, 167, 1, 7, 43, 182, 0, 255, 44, 182, 1, 2, 159, 0, 252, 3]
abbrev dktL_law_81 : List UInt8 := dkwL_law_81 ++ dktL_law_82
def dkwL_law_80 : List UInt8 := [182, 0, 254, 54, 6, 44, 182, 0, 123, 21, 5, 159, 0, 5, 3, 172, 21, 5, 154, 0, 15, 45, 3, 47]
abbrev dktL_law_80 : List UInt8 := dkwL_law_80 ++ dktL_law_81
def dkwL_law_79 : List UInt8 := [167, 1, 63, 43, 42, 21, 4, 4, 96, 46, 45, 184, 0, 252, 54, 5, 44, 42, 21, 4, 4, 96, 46]
abbrev dktL_law_79 : List UInt8 := dkwL_law_79 ++ dktL_law_80
def dkwL_law_78 : List UInt8 := [159, 0, 5, 3, 172, 21, 5, 154, 0, 15, 45, 3, 47, 21, 6, 133, 148, 153, 0, 5, 3, 172]
abbrev dktL_law_78 : List UInt8 := dkwL_law_78 ++ dktL_law_79
def dkwL_law_77 : List UInt8 := [184, 0, 249, 54, 5, 44, 42, 21, 4, 4, 96, 46, 182, 0, 251, 54, 6, 44, 182, 0, 123, 21, 5]
abbrev dktL_law_77 : List UInt8 := dkwL_law_77 ++ dktL_law_78
def dkwL_law_76 : List UInt8 := [167, 1, 132, 43, 182, 0, 245, 44, 182, 0, 248, 159, 1, 121, 3, 172, 43, 42, 21, 4, 4, 96, 46, 45]
abbrev dktL_law_76 : List UInt8 := dkwL_law_76 ++ dktL_law_77
def dkwL_law_75 : List UInt8 := [154, 0, 22, 45, 3, 47, 21, 6, 153, 0, 7, 10, 167, 0, 4, 9, 148, 153, 0, 5, 3, 172]
abbrev dktL_law_75 : List UInt8 := dkwL_law_75 ++ dktL_law_76
def dkwL_law_74 : List UInt8 := [21, 4, 6, 96, 46, 182, 0, 244, 54, 6, 44, 182, 0, 123, 21, 5, 159, 0, 5, 3, 172, 21, 5]
abbrev dktL_law_74 : List UInt8 := dkwL_law_74 ++ dktL_law_75
def dkwL_law_73 : List UInt8 := [6, 96, 46, 45, 184, 0, 242, 54, 5, 44, 42, 21, 4, 4, 96, 46, 42, 21, 4, 5, 96, 46, 42]
abbrev dktL_law_73 : List UInt8 := dkwL_law_73 ++ dktL_law_74
def dkwL_law_72 : List UInt8 := [153, 0, 5, 3, 172, 167, 1, 219, 43, 42, 21, 4, 4, 96, 46, 42, 21, 4, 5, 96, 46, 42, 21, 4]
abbrev dktL_law_72 : List UInt8 := dkwL_law_72 ++ dktL_law_73
def dkwL_law_71 : List UInt8 := [182, 0, 123, 21, 5, 159, 0, 5, 3, 172, 21, 5, 154, 0, 15, 45, 3, 47, 21, 6, 133, 148]
abbrev dktL_law_71 : List UInt8 := dkwL_law_71 ++ dktL_law_72
def dkwL_law_70 : List UInt8 := [21, 4, 4, 96, 46, 45, 184, 0, 239, 54, 5, 44, 42, 21, 4, 4, 96, 46, 182, 0, 241, 54, 6, 44]
abbrev dktL_law_70 : List UInt8 := dkwL_law_70 ++ dktL_law_71
def dkwL_law_69 : List UInt8 := [172, 21, 5, 154, 0, 15, 45, 3, 47, 21, 6, 133, 148, 153, 0, 5, 3, 172, 167, 2, 19, 43, 42]
abbrev dktL_law_69 : List UInt8 := dkwL_law_69 ++ dktL_law_70
def dkwL_law_68 : List UInt8 := [54, 5, 44, 42, 21, 4, 4, 96, 46, 182, 0, 238, 54, 6, 44, 182, 0, 123, 21, 5, 159, 0, 5, 3]
abbrev dktL_law_68 : List UInt8 := dkwL_law_68 ++ dktL_law_69
def dkwL_law_67 : List UInt8 := [21, 6, 133, 148, 153, 0, 5, 3, 172, 167, 2, 75, 43, 42, 21, 4, 4, 96, 46, 45, 184, 0, 236]
abbrev dktL_law_67 : List UInt8 := dkwL_law_67 ++ dktL_law_68
def dkwL_law_66 : List UInt8 := [182, 0, 235, 54, 6, 44, 182, 0, 123, 21, 5, 159, 0, 5, 3, 172, 21, 5, 154, 0, 15, 45, 3, 47]
abbrev dktL_law_66 : List UInt8 := dkwL_law_66 ++ dktL_law_67
def dkwL_law_65 : List UInt8 := [167, 2, 131, 43, 42, 21, 4, 4, 96, 46, 45, 184, 0, 233, 54, 5, 44, 42, 21, 4, 4, 96, 46]
abbrev dktL_law_65 : List UInt8 := dkwL_law_65 ++ dktL_law_66
def dkwL_law_64 : List UInt8 := [21, 5, 159, 0, 5, 3, 172, 21, 5, 154, 0, 15, 45, 3, 47, 21, 6, 133, 148, 153, 0, 5, 3, 172]
abbrev dktL_law_64 : List UInt8 := dkwL_law_64 ++ dktL_law_65
def dkwL_law_63 : List UInt8 := [46, 45, 184, 0, 230, 54, 5, 44, 42, 21, 4, 4, 96, 46, 182, 0, 232, 54, 6, 44, 182, 0, 123]
abbrev dktL_law_63 : List UInt8 := dkwL_law_63 ++ dktL_law_64
def dkwL_law_62 : List UInt8 := [154, 0, 15, 45, 3, 47, 21, 6, 133, 148, 153, 0, 5, 3, 172, 167, 2, 187, 43, 42, 21, 4, 4, 96]
abbrev dktL_law_62 : List UInt8 := dkwL_law_62 ++ dktL_law_63
def dkwL_law_61 : List UInt8 := [21, 4, 4, 96, 46, 182, 0, 229, 54, 6, 44, 182, 0, 123, 21, 5, 159, 0, 5, 3, 172, 21, 5]
abbrev dktL_law_61 : List UInt8 := dkwL_law_61 ++ dktL_law_62
def dkwL_law_60 : List UInt8 := [153, 0, 5, 3, 172, 167, 2, 243, 43, 42, 21, 4, 4, 96, 46, 45, 184, 0, 227, 54, 5, 44, 42]
abbrev dktL_law_60 : List UInt8 := dkwL_law_60 ++ dktL_law_61
def dkwL_law_59 : List UInt8 := [182, 0, 123, 21, 5, 159, 0, 5, 3, 172, 21, 5, 154, 0, 15, 45, 3, 47, 21, 6, 133, 148]
abbrev dktL_law_59 : List UInt8 := dkwL_law_59 ++ dktL_law_60
def dkwL_law_58 : List UInt8 := [21, 4, 4, 96, 46, 45, 184, 0, 224, 54, 5, 44, 42, 21, 4, 4, 96, 46, 182, 0, 226, 54, 6, 44]
abbrev dktL_law_58 : List UInt8 := dkwL_law_58 ++ dktL_law_59
def dkwL_law_57 : List UInt8 := [172, 21, 5, 154, 0, 15, 45, 3, 47, 21, 6, 133, 148, 153, 0, 5, 3, 172, 167, 3, 43, 43, 42]
abbrev dktL_law_57 : List UInt8 := dkwL_law_57 ++ dktL_law_58
def dkwL_law_56 : List UInt8 := [54, 5, 44, 42, 21, 4, 4, 96, 46, 182, 0, 223, 54, 6, 44, 182, 0, 123, 21, 5, 159, 0, 5, 3]
abbrev dktL_law_56 : List UInt8 := dkwL_law_56 ++ dktL_law_57
def dkwL_law_55 : List UInt8 := [21, 6, 133, 148, 153, 0, 5, 3, 172, 167, 3, 99, 43, 42, 21, 4, 4, 96, 46, 45, 184, 0, 221]
abbrev dktL_law_55 : List UInt8 := dkwL_law_55 ++ dktL_law_56
def dkwL_law_54 : List UInt8 := [182, 0, 220, 54, 6, 44, 182, 0, 123, 21, 5, 159, 0, 5, 3, 172, 21, 5, 154, 0, 15, 45, 3, 47]
abbrev dktL_law_54 : List UInt8 := dkwL_law_54 ++ dktL_law_55
def dkwL_law_53 : List UInt8 := [5, 96, 46, 45, 184, 0, 218, 54, 5, 44, 42, 21, 4, 4, 96, 46, 42, 21, 4, 5, 96, 46]
abbrev dktL_law_53 : List UInt8 := dkwL_law_53 ++ dktL_law_54
def dkwL_law_52 : List UInt8 := [3, 47, 21, 6, 133, 148, 153, 0, 5, 3, 172, 167, 3, 167, 43, 42, 21, 4, 4, 96, 46, 42, 21, 4]
abbrev dktL_law_52 : List UInt8 := dkwL_law_52 ++ dktL_law_53
def dkwL_law_51 : List UInt8 := [96, 46, 182, 0, 217, 54, 6, 44, 182, 0, 123, 21, 5, 159, 0, 5, 3, 172, 21, 5, 154, 0, 15, 45]
abbrev dktL_law_51 : List UInt8 := dkwL_law_51 ++ dktL_law_52
def dkwL_law_50 : List UInt8 := [46, 42, 21, 4, 5, 96, 46, 45, 184, 0, 215, 54, 5, 44, 42, 21, 4, 4, 96, 46, 42, 21, 4, 5]
abbrev dktL_law_50 : List UInt8 := dkwL_law_50 ++ dktL_law_51
def dkwL_law_49 : List UInt8 := [154, 0, 15, 45, 3, 47, 21, 6, 133, 148, 153, 0, 5, 3, 172, 167, 3, 235, 43, 42, 21, 4, 4, 96]
abbrev dktL_law_49 : List UInt8 := dkwL_law_49 ++ dktL_law_50
def dkwL_law_48 : List UInt8 := [21, 4, 4, 96, 46, 182, 0, 214, 54, 6, 44, 182, 0, 123, 21, 5, 159, 0, 5, 3, 172, 21, 5]
abbrev dktL_law_48 : List UInt8 := dkwL_law_48 ++ dktL_law_49
def dkwL_law_47 : List UInt8 := [153, 0, 5, 3, 172, 167, 4, 35, 43, 42, 21, 4, 4, 96, 46, 45, 184, 0, 212, 54, 5, 44, 42]
abbrev dktL_law_47 : List UInt8 := dkwL_law_47 ++ dktL_law_48
def dkwL_law_46 : List UInt8 := [182, 0, 123, 21, 5, 159, 0, 5, 3, 172, 21, 5, 154, 0, 15, 45, 3, 47, 21, 6, 133, 148]
abbrev dktL_law_46 : List UInt8 := dkwL_law_46 ++ dktL_law_47
def dkwL_law_45 : List UInt8 := [184, 0, 209, 54, 5, 44, 42, 21, 4, 4, 96, 46, 42, 21, 4, 5, 96, 46, 182, 0, 211, 54, 6, 44]
abbrev dktL_law_45 : List UInt8 := dkwL_law_45 ++ dktL_law_46
def dkwL_law_44 : List UInt8 := [153, 0, 5, 3, 172, 167, 4, 103, 43, 42, 21, 4, 4, 96, 46, 42, 21, 4, 5, 96, 46, 45]
abbrev dktL_law_44 : List UInt8 := dkwL_law_44 ++ dktL_law_45
def dkwL_law_43 : List UInt8 := [182, 0, 123, 21, 5, 159, 0, 5, 3, 172, 21, 5, 154, 0, 15, 45, 3, 47, 21, 6, 133, 148]
abbrev dktL_law_43 : List UInt8 := dkwL_law_43 ++ dktL_law_44
def dkwL_law_42 : List UInt8 := [184, 0, 206, 54, 5, 44, 42, 21, 4, 4, 96, 46, 42, 21, 4, 5, 96, 46, 182, 0, 208, 54, 6, 44]
abbrev dktL_law_42 : List UInt8 := dkwL_law_42 ++ dktL_law_43
def dkwL_law_41 : List UInt8 := [148, 153, 0, 5, 3, 172, 167, 4, 171, 43, 42, 21, 4, 4, 96, 46, 42, 21, 4, 5, 96, 46, 45]
abbrev dktL_law_41 : List UInt8 := dkwL_law_41 ++ dktL_law_42
def dkwL_law_40 : List UInt8 := [54, 6, 44, 182, 0, 123, 21, 5, 159, 0, 5, 3, 172, 21, 5, 154, 0, 15, 45, 3, 47, 21, 6, 133]
abbrev dktL_law_40 : List UInt8 := dkwL_law_40 ++ dktL_law_41
def dkwL_law_39 : List UInt8 := [46, 45, 184, 0, 203, 54, 5, 44, 42, 21, 4, 4, 96, 46, 42, 21, 4, 5, 96, 46, 182, 0, 205]
abbrev dktL_law_39 : List UInt8 := dkwL_law_39 ++ dktL_law_40
def dkwL_law_38 : List UInt8 := [182, 0, 199, 44, 182, 0, 202, 159, 4, 241, 3, 172, 43, 42, 21, 4, 4, 96, 46, 42, 21, 4, 5, 96]
abbrev dktL_law_38 : List UInt8 := dkwL_law_38 ++ dktL_law_39
def dkwL_law_37 : List UInt8 := [153, 0, 5, 3, 172, 167, 5, 9, 43, 182, 0, 195, 44, 182, 0, 198, 159, 4, 254, 3, 172, 43]
abbrev dktL_law_37 : List UInt8 := dkwL_law_37 ++ dktL_law_38
def dkwL_law_36 : List UInt8 := [182, 0, 123, 21, 5, 159, 0, 5, 3, 172, 21, 5, 154, 0, 15, 45, 3, 47, 21, 6, 133, 148]
abbrev dktL_law_36 : List UInt8 := dkwL_law_36 ++ dktL_law_37
def dkwL_law_35 : List UInt8 := [184, 0, 191, 54, 5, 44, 42, 21, 4, 4, 96, 46, 42, 21, 4, 5, 96, 46, 182, 0, 194, 54, 6, 44]
abbrev dktL_law_35 : List UInt8 := dkwL_law_35 ++ dktL_law_36
def dkwL_law_34 : List UInt8 := [182, 0, 190, 159, 5, 79, 3, 172, 43, 42, 21, 4, 4, 96, 46, 42, 21, 4, 5, 96, 46, 45]
abbrev dktL_law_34 : List UInt8 := dkwL_law_34 ++ dktL_law_35
def dkwL_law_33 : List UInt8 := [154, 0, 15, 45, 3, 47, 21, 6, 133, 148, 153, 0, 5, 3, 172, 167, 5, 90, 43, 182, 0, 187, 44]
abbrev dktL_law_33 : List UInt8 := dkwL_law_33 ++ dktL_law_34
def dkwL_law_32 : List UInt8 := [184, 0, 184, 54, 5, 44, 182, 0, 186, 54, 6, 44, 182, 0, 123, 21, 5, 159, 0, 5, 3, 172, 21, 5]
abbrev dktL_law_32 : List UInt8 := dkwL_law_32 ++ dktL_law_33
def dkwL_law_31 : List UInt8 := [153, 0, 5, 3, 172, 167, 5, 147, 43, 182, 0, 180, 44, 182, 0, 183, 159, 5, 136, 3, 172, 43, 45]
abbrev dktL_law_31 : List UInt8 := dkwL_law_31 ++ dktL_law_32
def dkwL_law_30 : List UInt8 := [182, 0, 123, 21, 5, 159, 0, 5, 3, 172, 21, 5, 154, 0, 15, 45, 3, 47, 21, 6, 133, 148]
abbrev dktL_law_30 : List UInt8 := dkwL_law_30 ++ dktL_law_31
def dkwL_law_29 : List UInt8 := [148, 153, 0, 5, 3, 172, 167, 5, 191, 43, 45, 184, 0, 177, 54, 5, 44, 182, 0, 179, 54, 6, 44]
abbrev dktL_law_29 : List UInt8 := dkwL_law_29 ++ dktL_law_30
def dkwL_law_28 : List UInt8 := [54, 6, 44, 182, 0, 123, 21, 5, 159, 0, 5, 3, 172, 21, 5, 154, 0, 15, 45, 3, 47, 21, 6, 133]
abbrev dktL_law_28 : List UInt8 := dkwL_law_28 ++ dktL_law_29
def dkwL_law_27 : List UInt8 := [21, 6, 133, 148, 153, 0, 5, 3, 172, 167, 5, 235, 43, 45, 184, 0, 174, 54, 5, 44, 182, 0, 176]
abbrev dktL_law_27 : List UInt8 := dkwL_law_27 ++ dktL_law_28
def dkwL_law_26 : List UInt8 := [182, 0, 173, 54, 6, 44, 182, 0, 123, 21, 5, 159, 0, 5, 3, 172, 21, 5, 154, 0, 15, 45, 3, 47]
abbrev dktL_law_26 : List UInt8 := dkwL_law_26 ++ dktL_law_27
def dkwL_law_25 : List UInt8 := [167, 6, 36, 43, 182, 0, 166, 44, 182, 0, 170, 159, 6, 25, 3, 172, 43, 45, 184, 0, 171, 54, 5, 44]
abbrev dktL_law_25 : List UInt8 := dkwL_law_25 ++ dktL_law_26
def dkwL_law_24 : List UInt8 := [159, 0, 5, 3, 172, 21, 5, 154, 0, 15, 45, 3, 47, 21, 6, 133, 148, 153, 0, 5, 3, 172]
abbrev dktL_law_24 : List UInt8 := dkwL_law_24 ++ dktL_law_25
def dkwL_law_23 : List UInt8 := [159, 6, 82, 3, 172, 43, 45, 184, 0, 162, 54, 5, 44, 182, 0, 165, 54, 6, 44, 182, 0, 123, 21, 5]
abbrev dktL_law_23 : List UInt8 := dkwL_law_23 ++ dktL_law_24
def dkwL_law_22 : List UInt8 := [167, 6, 106, 43, 182, 0, 154, 44, 182, 0, 157, 159, 6, 95, 3, 172, 43, 182, 0, 158, 44, 182, 0, 161]
abbrev dktL_law_22 : List UInt8 := dkwL_law_22 ++ dktL_law_23
def dkwL_law_21 : List UInt8 := [159, 0, 5, 3, 172, 21, 5, 154, 0, 15, 45, 3, 47, 21, 6, 133, 148, 153, 0, 5, 3, 172]
abbrev dktL_law_21 : List UInt8 := dkwL_law_21 ++ dktL_law_22
def dkwL_law_20 : List UInt8 := [184, 0, 151, 54, 5, 44, 42, 21, 4, 4, 96, 46, 182, 0, 153, 54, 6, 44, 182, 0, 123, 21, 5]
abbrev dktL_law_20 : List UInt8 := dkwL_law_20 ++ dktL_law_21
def dkwL_law_19 : List UInt8 := [172, 43, 182, 0, 147, 44, 182, 0, 150, 159, 6, 164, 3, 172, 43, 42, 21, 4, 4, 96, 46, 45]
abbrev dktL_law_19 : List UInt8 := dkwL_law_19 ++ dktL_law_20
def dkwL_law_18 : List UInt8 := [182, 0, 139, 44, 182, 0, 142, 159, 6, 190, 3, 172, 43, 182, 0, 143, 44, 182, 0, 146, 159, 6, 177, 3]
abbrev dktL_law_18 : List UInt8 := dkwL_law_18 ++ dktL_law_19
def dkwL_law_17 : List UInt8 := [172, 21, 5, 154, 0, 15, 45, 3, 47, 21, 6, 133, 148, 153, 0, 5, 3, 172, 167, 6, 201, 43]
abbrev dktL_law_17 : List UInt8 := dkwL_law_17 ++ dktL_law_18
def dkwL_law_16 : List UInt8 := [54, 5, 44, 42, 21, 4, 4, 96, 46, 182, 0, 138, 54, 6, 44, 182, 0, 123, 21, 5, 159, 0, 5, 3]
abbrev dktL_law_16 : List UInt8 := dkwL_law_16 ++ dktL_law_17
def dkwL_law_15 : List UInt8 := [21, 6, 133, 148, 153, 0, 5, 3, 172, 167, 7, 1, 43, 42, 21, 4, 4, 96, 46, 45, 184, 0, 136]
abbrev dktL_law_15 : List UInt8 := dkwL_law_15 ++ dktL_law_16
def dkwL_law_14 : List UInt8 := [182, 0, 135, 54, 6, 44, 182, 0, 123, 21, 5, 159, 0, 5, 3, 172, 21, 5, 154, 0, 15, 45, 3, 47]
abbrev dktL_law_14 : List UInt8 := dkwL_law_14 ++ dktL_law_15
def dkwL_law_13 : List UInt8 := [167, 7, 57, 43, 42, 21, 4, 4, 96, 46, 45, 184, 0, 132, 54, 5, 44, 42, 21, 4, 4, 96, 46]
abbrev dktL_law_13 : List UInt8 := dkwL_law_13 ++ dktL_law_14
def dkwL_law_12 : List UInt8 := [21, 5, 159, 0, 5, 3, 172, 21, 5, 154, 0, 15, 45, 3, 47, 21, 6, 133, 148, 153, 0, 5, 3, 172]
abbrev dktL_law_12 : List UInt8 := dkwL_law_12 ++ dktL_law_13
def dkwL_law_11 : List UInt8 := [96, 46, 42, 21, 4, 5, 96, 46, 42, 21, 4, 6, 96, 46, 182, 0, 131, 54, 6, 44, 182, 0, 123]
abbrev dktL_law_11 : List UInt8 := dkwL_law_11 ++ dktL_law_12
def dkwL_law_10 : List UInt8 := [46, 42, 21, 4, 5, 96, 46, 42, 21, 4, 6, 96, 46, 45, 184, 0, 129, 54, 5, 44, 42, 21, 4, 4]
abbrev dktL_law_10 : List UInt8 := dkwL_law_10 ++ dktL_law_11
def dkwL_law_9 : List UInt8 := [154, 0, 15, 45, 3, 47, 21, 6, 133, 148, 153, 0, 5, 3, 172, 167, 7, 137, 43, 42, 21, 4, 4, 96]
abbrev dktL_law_9 : List UInt8 := dkwL_law_9 ++ dktL_law_10
def dkwL_law_8 : List UInt8 := [42, 21, 4, 6, 96, 46, 182, 0, 128, 54, 6, 44, 182, 0, 123, 21, 5, 159, 0, 5, 3, 172, 21, 5]
abbrev dktL_law_8 : List UInt8 := dkwL_law_8 ++ dktL_law_9
def dkwL_law_7 : List UInt8 := [21, 4, 6, 96, 46, 45, 184, 0, 126, 54, 5, 44, 42, 21, 4, 4, 96, 46, 42, 21, 4, 5, 96, 46]
abbrev dktL_law_7 : List UInt8 := dkwL_law_7 ++ dktL_law_8
def dkwL_law_6 : List UInt8 := [148, 153, 0, 5, 3, 172, 167, 7, 217, 43, 42, 21, 4, 4, 96, 46, 42, 21, 4, 5, 96, 46, 42]
abbrev dktL_law_6 : List UInt8 := dkwL_law_6 ++ dktL_law_7
def dkwL_law_5 : List UInt8 := [54, 6, 44, 182, 0, 123, 21, 5, 159, 0, 5, 3, 172, 21, 5, 154, 0, 15, 45, 3, 47, 21, 6, 133]
abbrev dktL_law_5 : List UInt8 := dkwL_law_5 ++ dktL_law_6
def dkwL_law_4 : List UInt8 := [54, 5, 44, 42, 21, 4, 4, 96, 46, 42, 21, 4, 5, 96, 46, 42, 21, 4, 6, 96, 46, 182, 0, 122]
abbrev dktL_law_4 : List UInt8 := dkwL_law_4 ++ dktL_law_5
def dkwL_law_3 : List UInt8 := [43, 42, 21, 4, 4, 96, 46, 42, 21, 4, 5, 96, 46, 42, 21, 4, 6, 96, 46, 45, 184, 0, 117]
abbrev dktL_law_3 : List UInt8 := dkwL_law_3 ++ dktL_law_4
def dkwL_law_2 : List UInt8 := [170, 0, 0, 8, 231, 0, 0, 0, 0, 0, 0, 0, 44, 0, 0, 0, 193, 0, 0, 1, 17, 0, 0, 1, 97, 0, 0, 1, 177, 0, 0, 1, 233, 0, 0, 2, 33, 0, 0, 2, 46, 0, 0, 2, 59, 0, 0, 2, 72, 0, 0, 2, 128, 0, 0, 2, 141, 0, 0, 2, 154, 0, 0, 2, 198, 0, 0, 2, 211, 0, 0, 2, 255, 0, 0, 3, 43, 0, 0, 3, 87, 0, 0, 3, 100, 0, 0, 3, 144, 0, 0, 3, 157, 0, 0, 3, 225, 0, 0, 3, 238, 0, 0, 3, 251, 0, 0, 4, 63, 0, 0, 4, 131, 0, 0, 4, 199, 0, 0, 4, 255, 0, 0, 5, 67, 0, 0, 5, 135, 0, 0, 5, 191, 0, 0, 5, 247, 0, 0, 6, 47, 0, 0, 6, 103, 0, 0, 6, 159, 0, 0, 6, 215, 0, 0, 7, 15, 0, 0, 7, 102, 0, 0, 7, 115, 0, 0, 7, 171, 0, 0, 7, 227, 0, 0, 7, 240, 0, 0, 8, 64, 0, 0, 8, 120, 0, 0, 8, 176, 0, 0, 8, 217]
abbrev dktL_law_2 : List UInt8 := dkwL_law_2 ++ dktL_law_3
def dkwL_law_1 : List UInt8 := [21, 4, 42, 190, 7, 100, 163, 8, 247, 42, 21, 4, 46, 16, 63, 126]
abbrev dktL_law_1 : List UInt8 := dkwL_law_1 ++ dktL_law_2
def dkwL_law_0 : List UInt8 := [187, 0, 8, 89, 183, 0, 113, 76, 187, 0, 114, 89, 183, 0, 116, 77, 4, 188, 11, 78, 3, 54, 4]
abbrev dktL_law_0 : List UInt8 := dkwL_law_0 ++ dktL_law_1
theorem dksL_law_0 : cL_law.data.toList.drop 0 = dktL_law_0 := by decide +kernel
theorem dksL_law_1 : cL_law.data.toList.drop 23 = dktL_law_1 := dk_seg dksL_law_0 23 rfl rfl
theorem dksL_law_2 : cL_law.data.toList.drop 39 = dktL_law_2 := dk_seg dksL_law_1 16 rfl rfl
theorem dksL_law_3 : cL_law.data.toList.drop 232 = dktL_law_3 := dk_seg dksL_law_2 193 rfl rfl
theorem dksL_law_4 : cL_law.data.toList.drop 255 = dktL_law_4 := dk_seg dksL_law_3 23 rfl rfl
theorem dksL_law_5 : cL_law.data.toList.drop 279 = dktL_law_5 := dk_seg dksL_law_4 24 rfl rfl
theorem dksL_law_6 : cL_law.data.toList.drop 303 = dktL_law_6 := dk_seg dksL_law_5 24 rfl rfl
theorem dksL_law_7 : cL_law.data.toList.drop 326 = dktL_law_7 := dk_seg dksL_law_6 23 rfl rfl
theorem dksL_law_8 : cL_law.data.toList.drop 350 = dktL_law_8 := dk_seg dksL_law_7 24 rfl rfl
theorem dksL_law_9 : cL_law.data.toList.drop 374 = dktL_law_9 := dk_seg dksL_law_8 24 rfl rfl
theorem dksL_law_10 : cL_law.data.toList.drop 398 = dktL_law_10 := dk_seg dksL_law_9 24 rfl rfl
theorem dksL_law_11 : cL_law.data.toList.drop 422 = dktL_law_11 := dk_seg dksL_law_10 24 rfl rfl
theorem dksL_law_12 : cL_law.data.toList.drop 445 = dktL_law_12 := dk_seg dksL_law_11 23 rfl rfl
theorem dksL_law_13 : cL_law.data.toList.drop 469 = dktL_law_13 := dk_seg dksL_law_12 24 rfl rfl
theorem dksL_law_14 : cL_law.data.toList.drop 492 = dktL_law_14 := dk_seg dksL_law_13 23 rfl rfl
theorem dksL_law_15 : cL_law.data.toList.drop 516 = dktL_law_15 := dk_seg dksL_law_14 24 rfl rfl
theorem dksL_law_16 : cL_law.data.toList.drop 539 = dktL_law_16 := dk_seg dksL_law_15 23 rfl rfl
theorem dksL_law_17 : cL_law.data.toList.drop 563 = dktL_law_17 := dk_seg dksL_law_16 24 rfl rfl
theorem dksL_law_18 : cL_law.data.toList.drop 585 = dktL_law_18 := dk_seg dksL_law_17 22 rfl rfl
theorem dksL_law_19 : cL_law.data.toList.drop 609 = dktL_law_19 := dk_seg dksL_law_18 24 rfl rfl
theorem dksL_law_20 : cL_law.data.toList.drop 631 = dktL_law_20 := dk_seg dksL_law_19 22 rfl rfl
theorem dksL_law_21 : cL_law.data.toList.drop 654 = dktL_law_21 := dk_seg dksL_law_20 23 rfl rfl
theorem dksL_law_22 : cL_law.data.toList.drop 676 = dktL_law_22 := dk_seg dksL_law_21 22 rfl rfl
theorem dksL_law_23 : cL_law.data.toList.drop 700 = dktL_law_23 := dk_seg dksL_law_22 24 rfl rfl
theorem dksL_law_24 : cL_law.data.toList.drop 724 = dktL_law_24 := dk_seg dksL_law_23 24 rfl rfl
theorem dksL_law_25 : cL_law.data.toList.drop 746 = dktL_law_25 := dk_seg dksL_law_24 22 rfl rfl
theorem dksL_law_26 : cL_law.data.toList.drop 770 = dktL_law_26 := dk_seg dksL_law_25 24 rfl rfl
theorem dksL_law_27 : cL_law.data.toList.drop 794 = dktL_law_27 := dk_seg dksL_law_26 24 rfl rfl
theorem dksL_law_28 : cL_law.data.toList.drop 817 = dktL_law_28 := dk_seg dksL_law_27 23 rfl rfl
theorem dksL_law_29 : cL_law.data.toList.drop 841 = dktL_law_29 := dk_seg dksL_law_28 24 rfl rfl
theorem dksL_law_30 : cL_law.data.toList.drop 864 = dktL_law_30 := dk_seg dksL_law_29 23 rfl rfl
theorem dksL_law_31 : cL_law.data.toList.drop 886 = dktL_law_31 := dk_seg dksL_law_30 22 rfl rfl
theorem dksL_law_32 : cL_law.data.toList.drop 909 = dktL_law_32 := dk_seg dksL_law_31 23 rfl rfl
theorem dksL_law_33 : cL_law.data.toList.drop 933 = dktL_law_33 := dk_seg dksL_law_32 24 rfl rfl
theorem dksL_law_34 : cL_law.data.toList.drop 956 = dktL_law_34 := dk_seg dksL_law_33 23 rfl rfl
theorem dksL_law_35 : cL_law.data.toList.drop 978 = dktL_law_35 := dk_seg dksL_law_34 22 rfl rfl
theorem dksL_law_36 : cL_law.data.toList.drop 1002 = dktL_law_36 := dk_seg dksL_law_35 24 rfl rfl
theorem dksL_law_37 : cL_law.data.toList.drop 1024 = dktL_law_37 := dk_seg dksL_law_36 22 rfl rfl
theorem dksL_law_38 : cL_law.data.toList.drop 1046 = dktL_law_38 := dk_seg dksL_law_37 22 rfl rfl
theorem dksL_law_39 : cL_law.data.toList.drop 1070 = dktL_law_39 := dk_seg dksL_law_38 24 rfl rfl
theorem dksL_law_40 : cL_law.data.toList.drop 1093 = dktL_law_40 := dk_seg dksL_law_39 23 rfl rfl
theorem dksL_law_41 : cL_law.data.toList.drop 1117 = dktL_law_41 := dk_seg dksL_law_40 24 rfl rfl
theorem dksL_law_42 : cL_law.data.toList.drop 1140 = dktL_law_42 := dk_seg dksL_law_41 23 rfl rfl
theorem dksL_law_43 : cL_law.data.toList.drop 1164 = dktL_law_43 := dk_seg dksL_law_42 24 rfl rfl
theorem dksL_law_44 : cL_law.data.toList.drop 1186 = dktL_law_44 := dk_seg dksL_law_43 22 rfl rfl
theorem dksL_law_45 : cL_law.data.toList.drop 1208 = dktL_law_45 := dk_seg dksL_law_44 22 rfl rfl
theorem dksL_law_46 : cL_law.data.toList.drop 1232 = dktL_law_46 := dk_seg dksL_law_45 24 rfl rfl
theorem dksL_law_47 : cL_law.data.toList.drop 1254 = dktL_law_47 := dk_seg dksL_law_46 22 rfl rfl
theorem dksL_law_48 : cL_law.data.toList.drop 1277 = dktL_law_48 := dk_seg dksL_law_47 23 rfl rfl
theorem dksL_law_49 : cL_law.data.toList.drop 1300 = dktL_law_49 := dk_seg dksL_law_48 23 rfl rfl
theorem dksL_law_50 : cL_law.data.toList.drop 1324 = dktL_law_50 := dk_seg dksL_law_49 24 rfl rfl
theorem dksL_law_51 : cL_law.data.toList.drop 1348 = dktL_law_51 := dk_seg dksL_law_50 24 rfl rfl
theorem dksL_law_52 : cL_law.data.toList.drop 1372 = dktL_law_52 := dk_seg dksL_law_51 24 rfl rfl
theorem dksL_law_53 : cL_law.data.toList.drop 1396 = dktL_law_53 := dk_seg dksL_law_52 24 rfl rfl
theorem dksL_law_54 : cL_law.data.toList.drop 1418 = dktL_law_54 := dk_seg dksL_law_53 22 rfl rfl
theorem dksL_law_55 : cL_law.data.toList.drop 1442 = dktL_law_55 := dk_seg dksL_law_54 24 rfl rfl
theorem dksL_law_56 : cL_law.data.toList.drop 1465 = dktL_law_56 := dk_seg dksL_law_55 23 rfl rfl
theorem dksL_law_57 : cL_law.data.toList.drop 1489 = dktL_law_57 := dk_seg dksL_law_56 24 rfl rfl
theorem dksL_law_58 : cL_law.data.toList.drop 1512 = dktL_law_58 := dk_seg dksL_law_57 23 rfl rfl
theorem dksL_law_59 : cL_law.data.toList.drop 1536 = dktL_law_59 := dk_seg dksL_law_58 24 rfl rfl
theorem dksL_law_60 : cL_law.data.toList.drop 1558 = dktL_law_60 := dk_seg dksL_law_59 22 rfl rfl
theorem dksL_law_61 : cL_law.data.toList.drop 1581 = dktL_law_61 := dk_seg dksL_law_60 23 rfl rfl
theorem dksL_law_62 : cL_law.data.toList.drop 1604 = dktL_law_62 := dk_seg dksL_law_61 23 rfl rfl
theorem dksL_law_63 : cL_law.data.toList.drop 1628 = dktL_law_63 := dk_seg dksL_law_62 24 rfl rfl
theorem dksL_law_64 : cL_law.data.toList.drop 1651 = dktL_law_64 := dk_seg dksL_law_63 23 rfl rfl
theorem dksL_law_65 : cL_law.data.toList.drop 1675 = dktL_law_65 := dk_seg dksL_law_64 24 rfl rfl
theorem dksL_law_66 : cL_law.data.toList.drop 1698 = dktL_law_66 := dk_seg dksL_law_65 23 rfl rfl
theorem dksL_law_67 : cL_law.data.toList.drop 1722 = dktL_law_67 := dk_seg dksL_law_66 24 rfl rfl
theorem dksL_law_68 : cL_law.data.toList.drop 1745 = dktL_law_68 := dk_seg dksL_law_67 23 rfl rfl
theorem dksL_law_69 : cL_law.data.toList.drop 1769 = dktL_law_69 := dk_seg dksL_law_68 24 rfl rfl
theorem dksL_law_70 : cL_law.data.toList.drop 1792 = dktL_law_70 := dk_seg dksL_law_69 23 rfl rfl
theorem dksL_law_71 : cL_law.data.toList.drop 1816 = dktL_law_71 := dk_seg dksL_law_70 24 rfl rfl
theorem dksL_law_72 : cL_law.data.toList.drop 1838 = dktL_law_72 := dk_seg dksL_law_71 22 rfl rfl
theorem dksL_law_73 : cL_law.data.toList.drop 1862 = dktL_law_73 := dk_seg dksL_law_72 24 rfl rfl
theorem dksL_law_74 : cL_law.data.toList.drop 1885 = dktL_law_74 := dk_seg dksL_law_73 23 rfl rfl
theorem dksL_law_75 : cL_law.data.toList.drop 1908 = dktL_law_75 := dk_seg dksL_law_74 23 rfl rfl
theorem dksL_law_76 : cL_law.data.toList.drop 1930 = dktL_law_76 := dk_seg dksL_law_75 22 rfl rfl
theorem dksL_law_77 : cL_law.data.toList.drop 1954 = dktL_law_77 := dk_seg dksL_law_76 24 rfl rfl
theorem dksL_law_78 : cL_law.data.toList.drop 1977 = dktL_law_78 := dk_seg dksL_law_77 23 rfl rfl
theorem dksL_law_79 : cL_law.data.toList.drop 1999 = dktL_law_79 := dk_seg dksL_law_78 22 rfl rfl
theorem dksL_law_80 : cL_law.data.toList.drop 2022 = dktL_law_80 := dk_seg dksL_law_79 23 rfl rfl
theorem dksL_law_81 : cL_law.data.toList.drop 2046 = dktL_law_81 := dk_seg dksL_law_80 24 rfl rfl
theorem dksL_law_82 : cL_law.data.toList.drop 2070 = dktL_law_82 := dk_seg dksL_law_81 24 rfl rfl
theorem dksL_law_83 : cL_law.data.toList.drop 2094 = dktL_law_83 := dk_seg dksL_law_82 24 rfl rfl
theorem dksL_law_84 : cL_law.data.toList.drop 2118 = dktL_law_84 := dk_seg dksL_law_83 24 rfl rfl
theorem dksL_law_85 : cL_law.data.toList.drop 2142 = dktL_law_85 := dk_seg dksL_law_84 24 rfl rfl
theorem dksL_law_86 : cL_law.data.toList.drop 2166 = dktL_law_86 := dk_seg dksL_law_85 24 rfl rfl
theorem dksL_law_87 : cL_law.data.toList.drop 2189 = dktL_law_87 := dk_seg dksL_law_86 23 rfl rfl
theorem dksL_law_88 : cL_law.data.toList.drop 2213 = dktL_law_88 := dk_seg dksL_law_87 24 rfl rfl
theorem dksL_law_89 : cL_law.data.toList.drop 2236 = dktL_law_89 := dk_seg dksL_law_88 23 rfl rfl
theorem dksL_law_90 : cL_law.data.toList.drop 2260 = dktL_law_90 := dk_seg dksL_law_89 24 rfl rfl
theorem dksL_law_91 : cL_law.data.toList.drop 2283 = dktL_law_91 := dk_seg dksL_law_90 23 rfl rfl
theorem dksL_law_92 : cL_law.data.toList.drop 2305 = dktL_law_92 := dk_seg dksL_law_91 22 rfl rfl
theorem dL_law_0 : decode cL_law 0 = .ok (.new 8, 3) := dk_187 0 8 (dk_at dksL_law_0 0 rfl rfl)
theorem dL_law_3 : decode cL_law 3 = .ok (.dup, 1) := dk_89 (dk_at dksL_law_0 3 rfl rfl)
theorem dL_law_4 : decode cL_law 4 = .ok (.invokespecial 113, 3) := dk_183 0 113 (dk_at dksL_law_0 4 rfl rfl)
theorem dL_law_7 : decode cL_law 7 = .ok (.astore_n 1, 1) := dk_76 (dk_at dksL_law_0 7 rfl rfl)
theorem dL_law_8 : decode cL_law 8 = .ok (.new 114, 3) := dk_187 0 114 (dk_at dksL_law_0 8 rfl rfl)
theorem dL_law_11 : decode cL_law 11 = .ok (.dup, 1) := dk_89 (dk_at dksL_law_0 11 rfl rfl)
theorem dL_law_12 : decode cL_law 12 = .ok (.invokespecial 116, 3) := dk_183 0 116 (dk_at dksL_law_0 12 rfl rfl)
theorem dL_law_15 : decode cL_law 15 = .ok (.astore_n 2, 1) := dk_77 (dk_at dksL_law_0 15 rfl rfl)
theorem dL_law_16 : decode cL_law 16 = .ok (.iconst 1, 1) := dk_4 (dk_at dksL_law_0 16 rfl rfl)
theorem dL_law_17 : decode cL_law 17 = .ok (.newarray .long, 2) := dk_188_11 (dk_at dksL_law_0 17 rfl rfl)
theorem dL_law_19 : decode cL_law 19 = .ok (.astore_n 3, 1) := dk_78 (dk_at dksL_law_0 19 rfl rfl)
theorem dL_law_20 : decode cL_law 20 = .ok (.iconst 0, 1) := dk_3 (dk_at dksL_law_0 20 rfl rfl)
theorem dL_law_21 : decode cL_law 21 = .ok (.istore 4, 2) := dk_54 4 (dk_at dksL_law_0 21 rfl rfl)
theorem dL_law_23 : decode cL_law 23 = .ok (.iload 4, 2) := dk_21 4 (dk_at dksL_law_1 0 rfl rfl)
theorem dL_law_25 : decode cL_law 25 = .ok (.aload_n 0, 1) := dk_42 (dk_at dksL_law_1 2 rfl rfl)
theorem dL_law_26 : decode cL_law 26 = .ok (.arraylength, 1) := dk_190 (dk_at dksL_law_1 3 rfl rfl)
theorem dL_law_27 : decode cL_law 27 = .ok (.iconst 4, 1) := dk_7 (dk_at dksL_law_1 4 rfl rfl)
theorem dL_law_28 : decode cL_law 28 = .ok (.isub, 1) := dk_100 (dk_at dksL_law_1 5 rfl rfl)
theorem dL_law_29 : decode cL_law 29 = .ok (.if_icmp .gt 2295, 3) := dk_163 8 247 (dk_at dksL_law_1 6 rfl rfl)
theorem dL_law_32 : decode cL_law 32 = .ok (.aload_n 0, 1) := dk_42 (dk_at dksL_law_1 9 rfl rfl)
theorem dL_law_33 : decode cL_law 33 = .ok (.iload 4, 2) := dk_21 4 (dk_at dksL_law_1 10 rfl rfl)
theorem dL_law_35 : decode cL_law 35 = .ok (.iaload, 1) := dk_46 (dk_at dksL_law_1 12 rfl rfl)
theorem dL_law_36 : decode cL_law 36 = .ok (.bipush 63, 2) := dk_16 63 (dk_at dksL_law_1 13 rfl rfl)
theorem dL_law_38 : decode cL_law 38 = .ok (.iand, 1) := dk_126 (dk_at dksL_law_1 15 rfl rfl)
theorem dL_law_39 : decode cL_law 39 = .ok (.tableswitch 2279 0 44 #[193, 273, 353, 433, 489, 545, 558, 571, 584, 640, 653, 666, 710, 723, 767, 811, 855, 868, 912, 925, 993, 1006, 1019, 1087, 1155, 1223, 1279, 1347, 1415, 1471, 1527, 1583, 1639, 1695, 1751, 1807, 1894, 1907, 1963, 2019, 2032, 2112, 2168, 2224, 2265], 193) := by decide +kernel
theorem dL_law_232 : decode cL_law 232 = .ok (.aload_n 1, 1) := dk_43 (dk_at dksL_law_3 0 rfl rfl)
theorem dL_law_233 : decode cL_law 233 = .ok (.aload_n 0, 1) := dk_42 (dk_at dksL_law_3 1 rfl rfl)
theorem dL_law_234 : decode cL_law 234 = .ok (.iload 4, 2) := dk_21 4 (dk_at dksL_law_3 2 rfl rfl)
theorem dL_law_236 : decode cL_law 236 = .ok (.iconst 1, 1) := dk_4 (dk_at dksL_law_3 4 rfl rfl)
theorem dL_law_237 : decode cL_law 237 = .ok (.iadd, 1) := dk_96 (dk_at dksL_law_3 5 rfl rfl)
theorem dL_law_238 : decode cL_law 238 = .ok (.iaload, 1) := dk_46 (dk_at dksL_law_3 6 rfl rfl)
theorem dL_law_239 : decode cL_law 239 = .ok (.aload_n 0, 1) := dk_42 (dk_at dksL_law_3 7 rfl rfl)
theorem dL_law_240 : decode cL_law 240 = .ok (.iload 4, 2) := dk_21 4 (dk_at dksL_law_3 8 rfl rfl)
theorem dL_law_242 : decode cL_law 242 = .ok (.iconst 2, 1) := dk_5 (dk_at dksL_law_3 10 rfl rfl)
theorem dL_law_243 : decode cL_law 243 = .ok (.iadd, 1) := dk_96 (dk_at dksL_law_3 11 rfl rfl)
theorem dL_law_244 : decode cL_law 244 = .ok (.iaload, 1) := dk_46 (dk_at dksL_law_3 12 rfl rfl)
theorem dL_law_245 : decode cL_law 245 = .ok (.aload_n 0, 1) := dk_42 (dk_at dksL_law_3 13 rfl rfl)
theorem dL_law_246 : decode cL_law 246 = .ok (.iload 4, 2) := dk_21 4 (dk_at dksL_law_3 14 rfl rfl)
theorem dL_law_248 : decode cL_law 248 = .ok (.iconst 3, 1) := dk_6 (dk_at dksL_law_3 16 rfl rfl)
theorem dL_law_249 : decode cL_law 249 = .ok (.iadd, 1) := dk_96 (dk_at dksL_law_3 17 rfl rfl)
theorem dL_law_250 : decode cL_law 250 = .ok (.iaload, 1) := dk_46 (dk_at dksL_law_3 18 rfl rfl)
theorem dL_law_251 : decode cL_law 251 = .ok (.aload_n 3, 1) := dk_45 (dk_at dksL_law_3 19 rfl rfl)
theorem dL_law_252 : decode cL_law 252 = .ok (.invokestatic 117, 3) := dk_184 0 117 (dk_at dksL_law_3 20 rfl rfl)
theorem dL_law_255 : decode cL_law 255 = .ok (.istore 5, 2) := dk_54 5 (dk_at dksL_law_4 0 rfl rfl)
theorem dL_law_257 : decode cL_law 257 = .ok (.aload_n 2, 1) := dk_44 (dk_at dksL_law_4 2 rfl rfl)
theorem dL_law_258 : decode cL_law 258 = .ok (.aload_n 0, 1) := dk_42 (dk_at dksL_law_4 3 rfl rfl)
theorem dL_law_259 : decode cL_law 259 = .ok (.iload 4, 2) := dk_21 4 (dk_at dksL_law_4 4 rfl rfl)
theorem dL_law_261 : decode cL_law 261 = .ok (.iconst 1, 1) := dk_4 (dk_at dksL_law_4 6 rfl rfl)
theorem dL_law_262 : decode cL_law 262 = .ok (.iadd, 1) := dk_96 (dk_at dksL_law_4 7 rfl rfl)
theorem dL_law_263 : decode cL_law 263 = .ok (.iaload, 1) := dk_46 (dk_at dksL_law_4 8 rfl rfl)
theorem dL_law_264 : decode cL_law 264 = .ok (.aload_n 0, 1) := dk_42 (dk_at dksL_law_4 9 rfl rfl)
theorem dL_law_265 : decode cL_law 265 = .ok (.iload 4, 2) := dk_21 4 (dk_at dksL_law_4 10 rfl rfl)
theorem dL_law_267 : decode cL_law 267 = .ok (.iconst 2, 1) := dk_5 (dk_at dksL_law_4 12 rfl rfl)
theorem dL_law_268 : decode cL_law 268 = .ok (.iadd, 1) := dk_96 (dk_at dksL_law_4 13 rfl rfl)
theorem dL_law_269 : decode cL_law 269 = .ok (.iaload, 1) := dk_46 (dk_at dksL_law_4 14 rfl rfl)
theorem dL_law_270 : decode cL_law 270 = .ok (.aload_n 0, 1) := dk_42 (dk_at dksL_law_4 15 rfl rfl)
theorem dL_law_271 : decode cL_law 271 = .ok (.iload 4, 2) := dk_21 4 (dk_at dksL_law_4 16 rfl rfl)
theorem dL_law_273 : decode cL_law 273 = .ok (.iconst 3, 1) := dk_6 (dk_at dksL_law_4 18 rfl rfl)
theorem dL_law_274 : decode cL_law 274 = .ok (.iadd, 1) := dk_96 (dk_at dksL_law_4 19 rfl rfl)
theorem dL_law_275 : decode cL_law 275 = .ok (.iaload, 1) := dk_46 (dk_at dksL_law_4 20 rfl rfl)
theorem dL_law_276 : decode cL_law 276 = .ok (.invokevirtual 122, 3) := dk_182 0 122 (dk_at dksL_law_4 21 rfl rfl)
theorem dL_law_279 : decode cL_law 279 = .ok (.istore 6, 2) := dk_54 6 (dk_at dksL_law_5 0 rfl rfl)
theorem dL_law_281 : decode cL_law 281 = .ok (.aload_n 2, 1) := dk_44 (dk_at dksL_law_5 2 rfl rfl)
theorem dL_law_282 : decode cL_law 282 = .ok (.invokevirtual 123, 3) := dk_182 0 123 (dk_at dksL_law_5 3 rfl rfl)
theorem dL_law_285 : decode cL_law 285 = .ok (.iload 5, 2) := dk_21 5 (dk_at dksL_law_5 6 rfl rfl)
theorem dL_law_287 : decode cL_law 287 = .ok (.if_icmp .eq 5, 3) := dk_159 0 5 (dk_at dksL_law_5 8 rfl rfl)
theorem dL_law_290 : decode cL_law 290 = .ok (.iconst 0, 1) := dk_3 (dk_at dksL_law_5 11 rfl rfl)
theorem dL_law_291 : decode cL_law 291 = .ok (.ireturn, 1) := dk_172 (dk_at dksL_law_5 12 rfl rfl)
theorem dL_law_292 : decode cL_law 292 = .ok (.iload 5, 2) := dk_21 5 (dk_at dksL_law_5 13 rfl rfl)
theorem dL_law_294 : decode cL_law 294 = .ok (.ifCond .ne 15, 3) := dk_154 0 15 (dk_at dksL_law_5 15 rfl rfl)
theorem dL_law_297 : decode cL_law 297 = .ok (.aload_n 3, 1) := dk_45 (dk_at dksL_law_5 18 rfl rfl)
theorem dL_law_298 : decode cL_law 298 = .ok (.iconst 0, 1) := dk_3 (dk_at dksL_law_5 19 rfl rfl)
theorem dL_law_299 : decode cL_law 299 = .ok (.laload, 1) := dk_47 (dk_at dksL_law_5 20 rfl rfl)
theorem dL_law_300 : decode cL_law 300 = .ok (.iload 6, 2) := dk_21 6 (dk_at dksL_law_5 21 rfl rfl)
theorem dL_law_302 : decode cL_law 302 = .ok (.i2l, 1) := dk_133 (dk_at dksL_law_5 23 rfl rfl)
theorem dL_law_303 : decode cL_law 303 = .ok (.lcmp, 1) := dk_148 (dk_at dksL_law_6 0 rfl rfl)
theorem dL_law_304 : decode cL_law 304 = .ok (.ifCond .eq 5, 3) := dk_153 0 5 (dk_at dksL_law_6 1 rfl rfl)
theorem dL_law_307 : decode cL_law 307 = .ok (.iconst 0, 1) := dk_3 (dk_at dksL_law_6 4 rfl rfl)
theorem dL_law_308 : decode cL_law 308 = .ok (.ireturn, 1) := dk_172 (dk_at dksL_law_6 5 rfl rfl)
theorem dL_law_309 : decode cL_law 309 = .ok (.goto 2009, 3) := dk_167 7 217 (dk_at dksL_law_6 6 rfl rfl)
theorem dL_law_312 : decode cL_law 312 = .ok (.aload_n 1, 1) := dk_43 (dk_at dksL_law_6 9 rfl rfl)
theorem dL_law_313 : decode cL_law 313 = .ok (.aload_n 0, 1) := dk_42 (dk_at dksL_law_6 10 rfl rfl)
theorem dL_law_314 : decode cL_law 314 = .ok (.iload 4, 2) := dk_21 4 (dk_at dksL_law_6 11 rfl rfl)
theorem dL_law_316 : decode cL_law 316 = .ok (.iconst 1, 1) := dk_4 (dk_at dksL_law_6 13 rfl rfl)
theorem dL_law_317 : decode cL_law 317 = .ok (.iadd, 1) := dk_96 (dk_at dksL_law_6 14 rfl rfl)
theorem dL_law_318 : decode cL_law 318 = .ok (.iaload, 1) := dk_46 (dk_at dksL_law_6 15 rfl rfl)
theorem dL_law_319 : decode cL_law 319 = .ok (.aload_n 0, 1) := dk_42 (dk_at dksL_law_6 16 rfl rfl)
theorem dL_law_320 : decode cL_law 320 = .ok (.iload 4, 2) := dk_21 4 (dk_at dksL_law_6 17 rfl rfl)
theorem dL_law_322 : decode cL_law 322 = .ok (.iconst 2, 1) := dk_5 (dk_at dksL_law_6 19 rfl rfl)
theorem dL_law_323 : decode cL_law 323 = .ok (.iadd, 1) := dk_96 (dk_at dksL_law_6 20 rfl rfl)
theorem dL_law_324 : decode cL_law 324 = .ok (.iaload, 1) := dk_46 (dk_at dksL_law_6 21 rfl rfl)
theorem dL_law_325 : decode cL_law 325 = .ok (.aload_n 0, 1) := dk_42 (dk_at dksL_law_6 22 rfl rfl)
theorem dL_law_326 : decode cL_law 326 = .ok (.iload 4, 2) := dk_21 4 (dk_at dksL_law_7 0 rfl rfl)
theorem dL_law_328 : decode cL_law 328 = .ok (.iconst 3, 1) := dk_6 (dk_at dksL_law_7 2 rfl rfl)
theorem dL_law_329 : decode cL_law 329 = .ok (.iadd, 1) := dk_96 (dk_at dksL_law_7 3 rfl rfl)
theorem dL_law_330 : decode cL_law 330 = .ok (.iaload, 1) := dk_46 (dk_at dksL_law_7 4 rfl rfl)
theorem dL_law_331 : decode cL_law 331 = .ok (.aload_n 3, 1) := dk_45 (dk_at dksL_law_7 5 rfl rfl)
theorem dL_law_332 : decode cL_law 332 = .ok (.invokestatic 126, 3) := dk_184 0 126 (dk_at dksL_law_7 6 rfl rfl)
theorem dL_law_335 : decode cL_law 335 = .ok (.istore 5, 2) := dk_54 5 (dk_at dksL_law_7 9 rfl rfl)
theorem dL_law_337 : decode cL_law 337 = .ok (.aload_n 2, 1) := dk_44 (dk_at dksL_law_7 11 rfl rfl)
theorem dL_law_338 : decode cL_law 338 = .ok (.aload_n 0, 1) := dk_42 (dk_at dksL_law_7 12 rfl rfl)
theorem dL_law_339 : decode cL_law 339 = .ok (.iload 4, 2) := dk_21 4 (dk_at dksL_law_7 13 rfl rfl)
theorem dL_law_341 : decode cL_law 341 = .ok (.iconst 1, 1) := dk_4 (dk_at dksL_law_7 15 rfl rfl)
theorem dL_law_342 : decode cL_law 342 = .ok (.iadd, 1) := dk_96 (dk_at dksL_law_7 16 rfl rfl)
theorem dL_law_343 : decode cL_law 343 = .ok (.iaload, 1) := dk_46 (dk_at dksL_law_7 17 rfl rfl)
theorem dL_law_344 : decode cL_law 344 = .ok (.aload_n 0, 1) := dk_42 (dk_at dksL_law_7 18 rfl rfl)
theorem dL_law_345 : decode cL_law 345 = .ok (.iload 4, 2) := dk_21 4 (dk_at dksL_law_7 19 rfl rfl)
theorem dL_law_347 : decode cL_law 347 = .ok (.iconst 2, 1) := dk_5 (dk_at dksL_law_7 21 rfl rfl)
theorem dL_law_348 : decode cL_law 348 = .ok (.iadd, 1) := dk_96 (dk_at dksL_law_7 22 rfl rfl)
theorem dL_law_349 : decode cL_law 349 = .ok (.iaload, 1) := dk_46 (dk_at dksL_law_7 23 rfl rfl)
theorem dL_law_350 : decode cL_law 350 = .ok (.aload_n 0, 1) := dk_42 (dk_at dksL_law_8 0 rfl rfl)
theorem dL_law_351 : decode cL_law 351 = .ok (.iload 4, 2) := dk_21 4 (dk_at dksL_law_8 1 rfl rfl)
theorem dL_law_353 : decode cL_law 353 = .ok (.iconst 3, 1) := dk_6 (dk_at dksL_law_8 3 rfl rfl)
theorem dL_law_354 : decode cL_law 354 = .ok (.iadd, 1) := dk_96 (dk_at dksL_law_8 4 rfl rfl)
theorem dL_law_355 : decode cL_law 355 = .ok (.iaload, 1) := dk_46 (dk_at dksL_law_8 5 rfl rfl)
theorem dL_law_356 : decode cL_law 356 = .ok (.invokevirtual 128, 3) := dk_182 0 128 (dk_at dksL_law_8 6 rfl rfl)
theorem dL_law_359 : decode cL_law 359 = .ok (.istore 6, 2) := dk_54 6 (dk_at dksL_law_8 9 rfl rfl)
theorem dL_law_361 : decode cL_law 361 = .ok (.aload_n 2, 1) := dk_44 (dk_at dksL_law_8 11 rfl rfl)
theorem dL_law_362 : decode cL_law 362 = .ok (.invokevirtual 123, 3) := dk_182 0 123 (dk_at dksL_law_8 12 rfl rfl)
theorem dL_law_365 : decode cL_law 365 = .ok (.iload 5, 2) := dk_21 5 (dk_at dksL_law_8 15 rfl rfl)
theorem dL_law_367 : decode cL_law 367 = .ok (.if_icmp .eq 5, 3) := dk_159 0 5 (dk_at dksL_law_8 17 rfl rfl)
theorem dL_law_370 : decode cL_law 370 = .ok (.iconst 0, 1) := dk_3 (dk_at dksL_law_8 20 rfl rfl)
theorem dL_law_371 : decode cL_law 371 = .ok (.ireturn, 1) := dk_172 (dk_at dksL_law_8 21 rfl rfl)
theorem dL_law_372 : decode cL_law 372 = .ok (.iload 5, 2) := dk_21 5 (dk_at dksL_law_8 22 rfl rfl)
theorem dL_law_374 : decode cL_law 374 = .ok (.ifCond .ne 15, 3) := dk_154 0 15 (dk_at dksL_law_9 0 rfl rfl)
theorem dL_law_377 : decode cL_law 377 = .ok (.aload_n 3, 1) := dk_45 (dk_at dksL_law_9 3 rfl rfl)
theorem dL_law_378 : decode cL_law 378 = .ok (.iconst 0, 1) := dk_3 (dk_at dksL_law_9 4 rfl rfl)
theorem dL_law_379 : decode cL_law 379 = .ok (.laload, 1) := dk_47 (dk_at dksL_law_9 5 rfl rfl)
theorem dL_law_380 : decode cL_law 380 = .ok (.iload 6, 2) := dk_21 6 (dk_at dksL_law_9 6 rfl rfl)
theorem dL_law_382 : decode cL_law 382 = .ok (.i2l, 1) := dk_133 (dk_at dksL_law_9 8 rfl rfl)
theorem dL_law_383 : decode cL_law 383 = .ok (.lcmp, 1) := dk_148 (dk_at dksL_law_9 9 rfl rfl)
theorem dL_law_384 : decode cL_law 384 = .ok (.ifCond .eq 5, 3) := dk_153 0 5 (dk_at dksL_law_9 10 rfl rfl)
theorem dL_law_387 : decode cL_law 387 = .ok (.iconst 0, 1) := dk_3 (dk_at dksL_law_9 13 rfl rfl)
theorem dL_law_388 : decode cL_law 388 = .ok (.ireturn, 1) := dk_172 (dk_at dksL_law_9 14 rfl rfl)
theorem dL_law_389 : decode cL_law 389 = .ok (.goto 1929, 3) := dk_167 7 137 (dk_at dksL_law_9 15 rfl rfl)
theorem dL_law_392 : decode cL_law 392 = .ok (.aload_n 1, 1) := dk_43 (dk_at dksL_law_9 18 rfl rfl)
theorem dL_law_393 : decode cL_law 393 = .ok (.aload_n 0, 1) := dk_42 (dk_at dksL_law_9 19 rfl rfl)
theorem dL_law_394 : decode cL_law 394 = .ok (.iload 4, 2) := dk_21 4 (dk_at dksL_law_9 20 rfl rfl)
theorem dL_law_396 : decode cL_law 396 = .ok (.iconst 1, 1) := dk_4 (dk_at dksL_law_9 22 rfl rfl)
theorem dL_law_397 : decode cL_law 397 = .ok (.iadd, 1) := dk_96 (dk_at dksL_law_9 23 rfl rfl)
theorem dL_law_398 : decode cL_law 398 = .ok (.iaload, 1) := dk_46 (dk_at dksL_law_10 0 rfl rfl)
theorem dL_law_399 : decode cL_law 399 = .ok (.aload_n 0, 1) := dk_42 (dk_at dksL_law_10 1 rfl rfl)
theorem dL_law_400 : decode cL_law 400 = .ok (.iload 4, 2) := dk_21 4 (dk_at dksL_law_10 2 rfl rfl)
theorem dL_law_402 : decode cL_law 402 = .ok (.iconst 2, 1) := dk_5 (dk_at dksL_law_10 4 rfl rfl)
theorem dL_law_403 : decode cL_law 403 = .ok (.iadd, 1) := dk_96 (dk_at dksL_law_10 5 rfl rfl)
theorem dL_law_404 : decode cL_law 404 = .ok (.iaload, 1) := dk_46 (dk_at dksL_law_10 6 rfl rfl)
theorem dL_law_405 : decode cL_law 405 = .ok (.aload_n 0, 1) := dk_42 (dk_at dksL_law_10 7 rfl rfl)
theorem dL_law_406 : decode cL_law 406 = .ok (.iload 4, 2) := dk_21 4 (dk_at dksL_law_10 8 rfl rfl)
theorem dL_law_408 : decode cL_law 408 = .ok (.iconst 3, 1) := dk_6 (dk_at dksL_law_10 10 rfl rfl)
theorem dL_law_409 : decode cL_law 409 = .ok (.iadd, 1) := dk_96 (dk_at dksL_law_10 11 rfl rfl)
theorem dL_law_410 : decode cL_law 410 = .ok (.iaload, 1) := dk_46 (dk_at dksL_law_10 12 rfl rfl)
theorem dL_law_411 : decode cL_law 411 = .ok (.aload_n 3, 1) := dk_45 (dk_at dksL_law_10 13 rfl rfl)
theorem dL_law_412 : decode cL_law 412 = .ok (.invokestatic 129, 3) := dk_184 0 129 (dk_at dksL_law_10 14 rfl rfl)
theorem dL_law_415 : decode cL_law 415 = .ok (.istore 5, 2) := dk_54 5 (dk_at dksL_law_10 17 rfl rfl)
theorem dL_law_417 : decode cL_law 417 = .ok (.aload_n 2, 1) := dk_44 (dk_at dksL_law_10 19 rfl rfl)
theorem dL_law_418 : decode cL_law 418 = .ok (.aload_n 0, 1) := dk_42 (dk_at dksL_law_10 20 rfl rfl)
theorem dL_law_419 : decode cL_law 419 = .ok (.iload 4, 2) := dk_21 4 (dk_at dksL_law_10 21 rfl rfl)
theorem dL_law_421 : decode cL_law 421 = .ok (.iconst 1, 1) := dk_4 (dk_at dksL_law_10 23 rfl rfl)
theorem dL_law_422 : decode cL_law 422 = .ok (.iadd, 1) := dk_96 (dk_at dksL_law_11 0 rfl rfl)
theorem dL_law_423 : decode cL_law 423 = .ok (.iaload, 1) := dk_46 (dk_at dksL_law_11 1 rfl rfl)
theorem dL_law_424 : decode cL_law 424 = .ok (.aload_n 0, 1) := dk_42 (dk_at dksL_law_11 2 rfl rfl)
theorem dL_law_425 : decode cL_law 425 = .ok (.iload 4, 2) := dk_21 4 (dk_at dksL_law_11 3 rfl rfl)
theorem dL_law_427 : decode cL_law 427 = .ok (.iconst 2, 1) := dk_5 (dk_at dksL_law_11 5 rfl rfl)
theorem dL_law_428 : decode cL_law 428 = .ok (.iadd, 1) := dk_96 (dk_at dksL_law_11 6 rfl rfl)
theorem dL_law_429 : decode cL_law 429 = .ok (.iaload, 1) := dk_46 (dk_at dksL_law_11 7 rfl rfl)
theorem dL_law_430 : decode cL_law 430 = .ok (.aload_n 0, 1) := dk_42 (dk_at dksL_law_11 8 rfl rfl)
theorem dL_law_431 : decode cL_law 431 = .ok (.iload 4, 2) := dk_21 4 (dk_at dksL_law_11 9 rfl rfl)
theorem dL_law_433 : decode cL_law 433 = .ok (.iconst 3, 1) := dk_6 (dk_at dksL_law_11 11 rfl rfl)
theorem dL_law_434 : decode cL_law 434 = .ok (.iadd, 1) := dk_96 (dk_at dksL_law_11 12 rfl rfl)
theorem dL_law_435 : decode cL_law 435 = .ok (.iaload, 1) := dk_46 (dk_at dksL_law_11 13 rfl rfl)
theorem dL_law_436 : decode cL_law 436 = .ok (.invokevirtual 131, 3) := dk_182 0 131 (dk_at dksL_law_11 14 rfl rfl)
theorem dL_law_439 : decode cL_law 439 = .ok (.istore 6, 2) := dk_54 6 (dk_at dksL_law_11 17 rfl rfl)
theorem dL_law_441 : decode cL_law 441 = .ok (.aload_n 2, 1) := dk_44 (dk_at dksL_law_11 19 rfl rfl)
theorem dL_law_442 : decode cL_law 442 = .ok (.invokevirtual 123, 3) := dk_182 0 123 (dk_at dksL_law_11 20 rfl rfl)
theorem dL_law_445 : decode cL_law 445 = .ok (.iload 5, 2) := dk_21 5 (dk_at dksL_law_12 0 rfl rfl)
theorem dL_law_447 : decode cL_law 447 = .ok (.if_icmp .eq 5, 3) := dk_159 0 5 (dk_at dksL_law_12 2 rfl rfl)
theorem dL_law_450 : decode cL_law 450 = .ok (.iconst 0, 1) := dk_3 (dk_at dksL_law_12 5 rfl rfl)
theorem dL_law_451 : decode cL_law 451 = .ok (.ireturn, 1) := dk_172 (dk_at dksL_law_12 6 rfl rfl)
theorem dL_law_452 : decode cL_law 452 = .ok (.iload 5, 2) := dk_21 5 (dk_at dksL_law_12 7 rfl rfl)
theorem dL_law_454 : decode cL_law 454 = .ok (.ifCond .ne 15, 3) := dk_154 0 15 (dk_at dksL_law_12 9 rfl rfl)
theorem dL_law_457 : decode cL_law 457 = .ok (.aload_n 3, 1) := dk_45 (dk_at dksL_law_12 12 rfl rfl)
theorem dL_law_458 : decode cL_law 458 = .ok (.iconst 0, 1) := dk_3 (dk_at dksL_law_12 13 rfl rfl)
theorem dL_law_459 : decode cL_law 459 = .ok (.laload, 1) := dk_47 (dk_at dksL_law_12 14 rfl rfl)
theorem dL_law_460 : decode cL_law 460 = .ok (.iload 6, 2) := dk_21 6 (dk_at dksL_law_12 15 rfl rfl)
theorem dL_law_462 : decode cL_law 462 = .ok (.i2l, 1) := dk_133 (dk_at dksL_law_12 17 rfl rfl)
theorem dL_law_463 : decode cL_law 463 = .ok (.lcmp, 1) := dk_148 (dk_at dksL_law_12 18 rfl rfl)
theorem dL_law_464 : decode cL_law 464 = .ok (.ifCond .eq 5, 3) := dk_153 0 5 (dk_at dksL_law_12 19 rfl rfl)
theorem dL_law_467 : decode cL_law 467 = .ok (.iconst 0, 1) := dk_3 (dk_at dksL_law_12 22 rfl rfl)
theorem dL_law_468 : decode cL_law 468 = .ok (.ireturn, 1) := dk_172 (dk_at dksL_law_12 23 rfl rfl)
theorem dL_law_469 : decode cL_law 469 = .ok (.goto 1849, 3) := dk_167 7 57 (dk_at dksL_law_13 0 rfl rfl)
theorem dL_law_472 : decode cL_law 472 = .ok (.aload_n 1, 1) := dk_43 (dk_at dksL_law_13 3 rfl rfl)
theorem dL_law_473 : decode cL_law 473 = .ok (.aload_n 0, 1) := dk_42 (dk_at dksL_law_13 4 rfl rfl)
theorem dL_law_474 : decode cL_law 474 = .ok (.iload 4, 2) := dk_21 4 (dk_at dksL_law_13 5 rfl rfl)
theorem dL_law_476 : decode cL_law 476 = .ok (.iconst 1, 1) := dk_4 (dk_at dksL_law_13 7 rfl rfl)
theorem dL_law_477 : decode cL_law 477 = .ok (.iadd, 1) := dk_96 (dk_at dksL_law_13 8 rfl rfl)
theorem dL_law_478 : decode cL_law 478 = .ok (.iaload, 1) := dk_46 (dk_at dksL_law_13 9 rfl rfl)
theorem dL_law_479 : decode cL_law 479 = .ok (.aload_n 3, 1) := dk_45 (dk_at dksL_law_13 10 rfl rfl)
theorem dL_law_480 : decode cL_law 480 = .ok (.invokestatic 132, 3) := dk_184 0 132 (dk_at dksL_law_13 11 rfl rfl)
theorem dL_law_483 : decode cL_law 483 = .ok (.istore 5, 2) := dk_54 5 (dk_at dksL_law_13 14 rfl rfl)
theorem dL_law_485 : decode cL_law 485 = .ok (.aload_n 2, 1) := dk_44 (dk_at dksL_law_13 16 rfl rfl)
theorem dL_law_486 : decode cL_law 486 = .ok (.aload_n 0, 1) := dk_42 (dk_at dksL_law_13 17 rfl rfl)
theorem dL_law_487 : decode cL_law 487 = .ok (.iload 4, 2) := dk_21 4 (dk_at dksL_law_13 18 rfl rfl)
theorem dL_law_489 : decode cL_law 489 = .ok (.iconst 1, 1) := dk_4 (dk_at dksL_law_13 20 rfl rfl)
theorem dL_law_490 : decode cL_law 490 = .ok (.iadd, 1) := dk_96 (dk_at dksL_law_13 21 rfl rfl)
theorem dL_law_491 : decode cL_law 491 = .ok (.iaload, 1) := dk_46 (dk_at dksL_law_13 22 rfl rfl)
theorem dL_law_492 : decode cL_law 492 = .ok (.invokevirtual 135, 3) := dk_182 0 135 (dk_at dksL_law_14 0 rfl rfl)
theorem dL_law_495 : decode cL_law 495 = .ok (.istore 6, 2) := dk_54 6 (dk_at dksL_law_14 3 rfl rfl)
theorem dL_law_497 : decode cL_law 497 = .ok (.aload_n 2, 1) := dk_44 (dk_at dksL_law_14 5 rfl rfl)
theorem dL_law_498 : decode cL_law 498 = .ok (.invokevirtual 123, 3) := dk_182 0 123 (dk_at dksL_law_14 6 rfl rfl)
theorem dL_law_501 : decode cL_law 501 = .ok (.iload 5, 2) := dk_21 5 (dk_at dksL_law_14 9 rfl rfl)
theorem dL_law_503 : decode cL_law 503 = .ok (.if_icmp .eq 5, 3) := dk_159 0 5 (dk_at dksL_law_14 11 rfl rfl)
theorem dL_law_506 : decode cL_law 506 = .ok (.iconst 0, 1) := dk_3 (dk_at dksL_law_14 14 rfl rfl)
theorem dL_law_507 : decode cL_law 507 = .ok (.ireturn, 1) := dk_172 (dk_at dksL_law_14 15 rfl rfl)
theorem dL_law_508 : decode cL_law 508 = .ok (.iload 5, 2) := dk_21 5 (dk_at dksL_law_14 16 rfl rfl)
theorem dL_law_510 : decode cL_law 510 = .ok (.ifCond .ne 15, 3) := dk_154 0 15 (dk_at dksL_law_14 18 rfl rfl)
theorem dL_law_513 : decode cL_law 513 = .ok (.aload_n 3, 1) := dk_45 (dk_at dksL_law_14 21 rfl rfl)
theorem dL_law_514 : decode cL_law 514 = .ok (.iconst 0, 1) := dk_3 (dk_at dksL_law_14 22 rfl rfl)
theorem dL_law_515 : decode cL_law 515 = .ok (.laload, 1) := dk_47 (dk_at dksL_law_14 23 rfl rfl)
theorem dL_law_516 : decode cL_law 516 = .ok (.iload 6, 2) := dk_21 6 (dk_at dksL_law_15 0 rfl rfl)
theorem dL_law_518 : decode cL_law 518 = .ok (.i2l, 1) := dk_133 (dk_at dksL_law_15 2 rfl rfl)
theorem dL_law_519 : decode cL_law 519 = .ok (.lcmp, 1) := dk_148 (dk_at dksL_law_15 3 rfl rfl)
theorem dL_law_520 : decode cL_law 520 = .ok (.ifCond .eq 5, 3) := dk_153 0 5 (dk_at dksL_law_15 4 rfl rfl)
theorem dL_law_523 : decode cL_law 523 = .ok (.iconst 0, 1) := dk_3 (dk_at dksL_law_15 7 rfl rfl)
theorem dL_law_524 : decode cL_law 524 = .ok (.ireturn, 1) := dk_172 (dk_at dksL_law_15 8 rfl rfl)
theorem dL_law_525 : decode cL_law 525 = .ok (.goto 1793, 3) := dk_167 7 1 (dk_at dksL_law_15 9 rfl rfl)
theorem dL_law_528 : decode cL_law 528 = .ok (.aload_n 1, 1) := dk_43 (dk_at dksL_law_15 12 rfl rfl)
theorem dL_law_529 : decode cL_law 529 = .ok (.aload_n 0, 1) := dk_42 (dk_at dksL_law_15 13 rfl rfl)
theorem dL_law_530 : decode cL_law 530 = .ok (.iload 4, 2) := dk_21 4 (dk_at dksL_law_15 14 rfl rfl)
theorem dL_law_532 : decode cL_law 532 = .ok (.iconst 1, 1) := dk_4 (dk_at dksL_law_15 16 rfl rfl)
theorem dL_law_533 : decode cL_law 533 = .ok (.iadd, 1) := dk_96 (dk_at dksL_law_15 17 rfl rfl)
theorem dL_law_534 : decode cL_law 534 = .ok (.iaload, 1) := dk_46 (dk_at dksL_law_15 18 rfl rfl)
theorem dL_law_535 : decode cL_law 535 = .ok (.aload_n 3, 1) := dk_45 (dk_at dksL_law_15 19 rfl rfl)
theorem dL_law_536 : decode cL_law 536 = .ok (.invokestatic 136, 3) := dk_184 0 136 (dk_at dksL_law_15 20 rfl rfl)
theorem dL_law_539 : decode cL_law 539 = .ok (.istore 5, 2) := dk_54 5 (dk_at dksL_law_16 0 rfl rfl)
theorem dL_law_541 : decode cL_law 541 = .ok (.aload_n 2, 1) := dk_44 (dk_at dksL_law_16 2 rfl rfl)
theorem dL_law_542 : decode cL_law 542 = .ok (.aload_n 0, 1) := dk_42 (dk_at dksL_law_16 3 rfl rfl)
theorem dL_law_543 : decode cL_law 543 = .ok (.iload 4, 2) := dk_21 4 (dk_at dksL_law_16 4 rfl rfl)
theorem dL_law_545 : decode cL_law 545 = .ok (.iconst 1, 1) := dk_4 (dk_at dksL_law_16 6 rfl rfl)
theorem dL_law_546 : decode cL_law 546 = .ok (.iadd, 1) := dk_96 (dk_at dksL_law_16 7 rfl rfl)
theorem dL_law_547 : decode cL_law 547 = .ok (.iaload, 1) := dk_46 (dk_at dksL_law_16 8 rfl rfl)
theorem dL_law_548 : decode cL_law 548 = .ok (.invokevirtual 138, 3) := dk_182 0 138 (dk_at dksL_law_16 9 rfl rfl)
theorem dL_law_551 : decode cL_law 551 = .ok (.istore 6, 2) := dk_54 6 (dk_at dksL_law_16 12 rfl rfl)
theorem dL_law_553 : decode cL_law 553 = .ok (.aload_n 2, 1) := dk_44 (dk_at dksL_law_16 14 rfl rfl)
theorem dL_law_554 : decode cL_law 554 = .ok (.invokevirtual 123, 3) := dk_182 0 123 (dk_at dksL_law_16 15 rfl rfl)
theorem dL_law_557 : decode cL_law 557 = .ok (.iload 5, 2) := dk_21 5 (dk_at dksL_law_16 18 rfl rfl)
theorem dL_law_559 : decode cL_law 559 = .ok (.if_icmp .eq 5, 3) := dk_159 0 5 (dk_at dksL_law_16 20 rfl rfl)
theorem dL_law_562 : decode cL_law 562 = .ok (.iconst 0, 1) := dk_3 (dk_at dksL_law_16 23 rfl rfl)
theorem dL_law_563 : decode cL_law 563 = .ok (.ireturn, 1) := dk_172 (dk_at dksL_law_17 0 rfl rfl)
theorem dL_law_564 : decode cL_law 564 = .ok (.iload 5, 2) := dk_21 5 (dk_at dksL_law_17 1 rfl rfl)
theorem dL_law_566 : decode cL_law 566 = .ok (.ifCond .ne 15, 3) := dk_154 0 15 (dk_at dksL_law_17 3 rfl rfl)
theorem dL_law_569 : decode cL_law 569 = .ok (.aload_n 3, 1) := dk_45 (dk_at dksL_law_17 6 rfl rfl)
theorem dL_law_570 : decode cL_law 570 = .ok (.iconst 0, 1) := dk_3 (dk_at dksL_law_17 7 rfl rfl)
theorem dL_law_571 : decode cL_law 571 = .ok (.laload, 1) := dk_47 (dk_at dksL_law_17 8 rfl rfl)
theorem dL_law_572 : decode cL_law 572 = .ok (.iload 6, 2) := dk_21 6 (dk_at dksL_law_17 9 rfl rfl)
theorem dL_law_574 : decode cL_law 574 = .ok (.i2l, 1) := dk_133 (dk_at dksL_law_17 11 rfl rfl)
theorem dL_law_575 : decode cL_law 575 = .ok (.lcmp, 1) := dk_148 (dk_at dksL_law_17 12 rfl rfl)
theorem dL_law_576 : decode cL_law 576 = .ok (.ifCond .eq 5, 3) := dk_153 0 5 (dk_at dksL_law_17 13 rfl rfl)
theorem dL_law_579 : decode cL_law 579 = .ok (.iconst 0, 1) := dk_3 (dk_at dksL_law_17 16 rfl rfl)
theorem dL_law_580 : decode cL_law 580 = .ok (.ireturn, 1) := dk_172 (dk_at dksL_law_17 17 rfl rfl)
theorem dL_law_581 : decode cL_law 581 = .ok (.goto 1737, 3) := dk_167 6 201 (dk_at dksL_law_17 18 rfl rfl)
theorem dL_law_584 : decode cL_law 584 = .ok (.aload_n 1, 1) := dk_43 (dk_at dksL_law_17 21 rfl rfl)
theorem dL_law_585 : decode cL_law 585 = .ok (.invokevirtual 139, 3) := dk_182 0 139 (dk_at dksL_law_18 0 rfl rfl)
theorem dL_law_588 : decode cL_law 588 = .ok (.aload_n 2, 1) := dk_44 (dk_at dksL_law_18 3 rfl rfl)
theorem dL_law_589 : decode cL_law 589 = .ok (.invokevirtual 142, 3) := dk_182 0 142 (dk_at dksL_law_18 4 rfl rfl)
theorem dL_law_592 : decode cL_law 592 = .ok (.if_icmp .eq 1726, 3) := dk_159 6 190 (dk_at dksL_law_18 7 rfl rfl)
theorem dL_law_595 : decode cL_law 595 = .ok (.iconst 0, 1) := dk_3 (dk_at dksL_law_18 10 rfl rfl)
theorem dL_law_596 : decode cL_law 596 = .ok (.ireturn, 1) := dk_172 (dk_at dksL_law_18 11 rfl rfl)
theorem dL_law_597 : decode cL_law 597 = .ok (.aload_n 1, 1) := dk_43 (dk_at dksL_law_18 12 rfl rfl)
theorem dL_law_598 : decode cL_law 598 = .ok (.invokevirtual 143, 3) := dk_182 0 143 (dk_at dksL_law_18 13 rfl rfl)
theorem dL_law_601 : decode cL_law 601 = .ok (.aload_n 2, 1) := dk_44 (dk_at dksL_law_18 16 rfl rfl)
theorem dL_law_602 : decode cL_law 602 = .ok (.invokevirtual 146, 3) := dk_182 0 146 (dk_at dksL_law_18 17 rfl rfl)
theorem dL_law_605 : decode cL_law 605 = .ok (.if_icmp .eq 1713, 3) := dk_159 6 177 (dk_at dksL_law_18 20 rfl rfl)
theorem dL_law_608 : decode cL_law 608 = .ok (.iconst 0, 1) := dk_3 (dk_at dksL_law_18 23 rfl rfl)
theorem dL_law_609 : decode cL_law 609 = .ok (.ireturn, 1) := dk_172 (dk_at dksL_law_19 0 rfl rfl)
theorem dL_law_610 : decode cL_law 610 = .ok (.aload_n 1, 1) := dk_43 (dk_at dksL_law_19 1 rfl rfl)
theorem dL_law_611 : decode cL_law 611 = .ok (.invokevirtual 147, 3) := dk_182 0 147 (dk_at dksL_law_19 2 rfl rfl)
theorem dL_law_614 : decode cL_law 614 = .ok (.aload_n 2, 1) := dk_44 (dk_at dksL_law_19 5 rfl rfl)
theorem dL_law_615 : decode cL_law 615 = .ok (.invokevirtual 150, 3) := dk_182 0 150 (dk_at dksL_law_19 6 rfl rfl)
theorem dL_law_618 : decode cL_law 618 = .ok (.if_icmp .eq 1700, 3) := dk_159 6 164 (dk_at dksL_law_19 9 rfl rfl)
theorem dL_law_621 : decode cL_law 621 = .ok (.iconst 0, 1) := dk_3 (dk_at dksL_law_19 12 rfl rfl)
theorem dL_law_622 : decode cL_law 622 = .ok (.ireturn, 1) := dk_172 (dk_at dksL_law_19 13 rfl rfl)
theorem dL_law_623 : decode cL_law 623 = .ok (.aload_n 1, 1) := dk_43 (dk_at dksL_law_19 14 rfl rfl)
theorem dL_law_624 : decode cL_law 624 = .ok (.aload_n 0, 1) := dk_42 (dk_at dksL_law_19 15 rfl rfl)
theorem dL_law_625 : decode cL_law 625 = .ok (.iload 4, 2) := dk_21 4 (dk_at dksL_law_19 16 rfl rfl)
theorem dL_law_627 : decode cL_law 627 = .ok (.iconst 1, 1) := dk_4 (dk_at dksL_law_19 18 rfl rfl)
theorem dL_law_628 : decode cL_law 628 = .ok (.iadd, 1) := dk_96 (dk_at dksL_law_19 19 rfl rfl)
theorem dL_law_629 : decode cL_law 629 = .ok (.iaload, 1) := dk_46 (dk_at dksL_law_19 20 rfl rfl)
theorem dL_law_630 : decode cL_law 630 = .ok (.aload_n 3, 1) := dk_45 (dk_at dksL_law_19 21 rfl rfl)
theorem dL_law_631 : decode cL_law 631 = .ok (.invokestatic 151, 3) := dk_184 0 151 (dk_at dksL_law_20 0 rfl rfl)
theorem dL_law_634 : decode cL_law 634 = .ok (.istore 5, 2) := dk_54 5 (dk_at dksL_law_20 3 rfl rfl)
theorem dL_law_636 : decode cL_law 636 = .ok (.aload_n 2, 1) := dk_44 (dk_at dksL_law_20 5 rfl rfl)
theorem dL_law_637 : decode cL_law 637 = .ok (.aload_n 0, 1) := dk_42 (dk_at dksL_law_20 6 rfl rfl)
theorem dL_law_638 : decode cL_law 638 = .ok (.iload 4, 2) := dk_21 4 (dk_at dksL_law_20 7 rfl rfl)
theorem dL_law_640 : decode cL_law 640 = .ok (.iconst 1, 1) := dk_4 (dk_at dksL_law_20 9 rfl rfl)
theorem dL_law_641 : decode cL_law 641 = .ok (.iadd, 1) := dk_96 (dk_at dksL_law_20 10 rfl rfl)
theorem dL_law_642 : decode cL_law 642 = .ok (.iaload, 1) := dk_46 (dk_at dksL_law_20 11 rfl rfl)
theorem dL_law_643 : decode cL_law 643 = .ok (.invokevirtual 153, 3) := dk_182 0 153 (dk_at dksL_law_20 12 rfl rfl)
theorem dL_law_646 : decode cL_law 646 = .ok (.istore 6, 2) := dk_54 6 (dk_at dksL_law_20 15 rfl rfl)
theorem dL_law_648 : decode cL_law 648 = .ok (.aload_n 2, 1) := dk_44 (dk_at dksL_law_20 17 rfl rfl)
theorem dL_law_649 : decode cL_law 649 = .ok (.invokevirtual 123, 3) := dk_182 0 123 (dk_at dksL_law_20 18 rfl rfl)
theorem dL_law_652 : decode cL_law 652 = .ok (.iload 5, 2) := dk_21 5 (dk_at dksL_law_20 21 rfl rfl)
theorem dL_law_654 : decode cL_law 654 = .ok (.if_icmp .eq 5, 3) := dk_159 0 5 (dk_at dksL_law_21 0 rfl rfl)
theorem dL_law_657 : decode cL_law 657 = .ok (.iconst 0, 1) := dk_3 (dk_at dksL_law_21 3 rfl rfl)
theorem dL_law_658 : decode cL_law 658 = .ok (.ireturn, 1) := dk_172 (dk_at dksL_law_21 4 rfl rfl)
theorem dL_law_659 : decode cL_law 659 = .ok (.iload 5, 2) := dk_21 5 (dk_at dksL_law_21 5 rfl rfl)
theorem dL_law_661 : decode cL_law 661 = .ok (.ifCond .ne 15, 3) := dk_154 0 15 (dk_at dksL_law_21 7 rfl rfl)
theorem dL_law_664 : decode cL_law 664 = .ok (.aload_n 3, 1) := dk_45 (dk_at dksL_law_21 10 rfl rfl)
theorem dL_law_665 : decode cL_law 665 = .ok (.iconst 0, 1) := dk_3 (dk_at dksL_law_21 11 rfl rfl)
theorem dL_law_666 : decode cL_law 666 = .ok (.laload, 1) := dk_47 (dk_at dksL_law_21 12 rfl rfl)
theorem dL_law_667 : decode cL_law 667 = .ok (.iload 6, 2) := dk_21 6 (dk_at dksL_law_21 13 rfl rfl)
theorem dL_law_669 : decode cL_law 669 = .ok (.i2l, 1) := dk_133 (dk_at dksL_law_21 15 rfl rfl)
theorem dL_law_670 : decode cL_law 670 = .ok (.lcmp, 1) := dk_148 (dk_at dksL_law_21 16 rfl rfl)
theorem dL_law_671 : decode cL_law 671 = .ok (.ifCond .eq 5, 3) := dk_153 0 5 (dk_at dksL_law_21 17 rfl rfl)
theorem dL_law_674 : decode cL_law 674 = .ok (.iconst 0, 1) := dk_3 (dk_at dksL_law_21 20 rfl rfl)
theorem dL_law_675 : decode cL_law 675 = .ok (.ireturn, 1) := dk_172 (dk_at dksL_law_21 21 rfl rfl)
theorem dL_law_676 : decode cL_law 676 = .ok (.goto 1642, 3) := dk_167 6 106 (dk_at dksL_law_22 0 rfl rfl)
theorem dL_law_679 : decode cL_law 679 = .ok (.aload_n 1, 1) := dk_43 (dk_at dksL_law_22 3 rfl rfl)
theorem dL_law_680 : decode cL_law 680 = .ok (.invokevirtual 154, 3) := dk_182 0 154 (dk_at dksL_law_22 4 rfl rfl)
theorem dL_law_683 : decode cL_law 683 = .ok (.aload_n 2, 1) := dk_44 (dk_at dksL_law_22 7 rfl rfl)
theorem dL_law_684 : decode cL_law 684 = .ok (.invokevirtual 157, 3) := dk_182 0 157 (dk_at dksL_law_22 8 rfl rfl)
theorem dL_law_687 : decode cL_law 687 = .ok (.if_icmp .eq 1631, 3) := dk_159 6 95 (dk_at dksL_law_22 11 rfl rfl)
theorem dL_law_690 : decode cL_law 690 = .ok (.iconst 0, 1) := dk_3 (dk_at dksL_law_22 14 rfl rfl)
theorem dL_law_691 : decode cL_law 691 = .ok (.ireturn, 1) := dk_172 (dk_at dksL_law_22 15 rfl rfl)
theorem dL_law_692 : decode cL_law 692 = .ok (.aload_n 1, 1) := dk_43 (dk_at dksL_law_22 16 rfl rfl)
theorem dL_law_693 : decode cL_law 693 = .ok (.invokevirtual 158, 3) := dk_182 0 158 (dk_at dksL_law_22 17 rfl rfl)
theorem dL_law_696 : decode cL_law 696 = .ok (.aload_n 2, 1) := dk_44 (dk_at dksL_law_22 20 rfl rfl)
theorem dL_law_697 : decode cL_law 697 = .ok (.invokevirtual 161, 3) := dk_182 0 161 (dk_at dksL_law_22 21 rfl rfl)
theorem dL_law_700 : decode cL_law 700 = .ok (.if_icmp .eq 1618, 3) := dk_159 6 82 (dk_at dksL_law_23 0 rfl rfl)
theorem dL_law_703 : decode cL_law 703 = .ok (.iconst 0, 1) := dk_3 (dk_at dksL_law_23 3 rfl rfl)
theorem dL_law_704 : decode cL_law 704 = .ok (.ireturn, 1) := dk_172 (dk_at dksL_law_23 4 rfl rfl)
theorem dL_law_705 : decode cL_law 705 = .ok (.aload_n 1, 1) := dk_43 (dk_at dksL_law_23 5 rfl rfl)
theorem dL_law_706 : decode cL_law 706 = .ok (.aload_n 3, 1) := dk_45 (dk_at dksL_law_23 6 rfl rfl)
theorem dL_law_707 : decode cL_law 707 = .ok (.invokestatic 162, 3) := dk_184 0 162 (dk_at dksL_law_23 7 rfl rfl)
theorem dL_law_710 : decode cL_law 710 = .ok (.istore 5, 2) := dk_54 5 (dk_at dksL_law_23 10 rfl rfl)
theorem dL_law_712 : decode cL_law 712 = .ok (.aload_n 2, 1) := dk_44 (dk_at dksL_law_23 12 rfl rfl)
theorem dL_law_713 : decode cL_law 713 = .ok (.invokevirtual 165, 3) := dk_182 0 165 (dk_at dksL_law_23 13 rfl rfl)
theorem dL_law_716 : decode cL_law 716 = .ok (.istore 6, 2) := dk_54 6 (dk_at dksL_law_23 16 rfl rfl)
theorem dL_law_718 : decode cL_law 718 = .ok (.aload_n 2, 1) := dk_44 (dk_at dksL_law_23 18 rfl rfl)
theorem dL_law_719 : decode cL_law 719 = .ok (.invokevirtual 123, 3) := dk_182 0 123 (dk_at dksL_law_23 19 rfl rfl)
theorem dL_law_722 : decode cL_law 722 = .ok (.iload 5, 2) := dk_21 5 (dk_at dksL_law_23 22 rfl rfl)
theorem dL_law_724 : decode cL_law 724 = .ok (.if_icmp .eq 5, 3) := dk_159 0 5 (dk_at dksL_law_24 0 rfl rfl)
theorem dL_law_727 : decode cL_law 727 = .ok (.iconst 0, 1) := dk_3 (dk_at dksL_law_24 3 rfl rfl)
theorem dL_law_728 : decode cL_law 728 = .ok (.ireturn, 1) := dk_172 (dk_at dksL_law_24 4 rfl rfl)
theorem dL_law_729 : decode cL_law 729 = .ok (.iload 5, 2) := dk_21 5 (dk_at dksL_law_24 5 rfl rfl)
theorem dL_law_731 : decode cL_law 731 = .ok (.ifCond .ne 15, 3) := dk_154 0 15 (dk_at dksL_law_24 7 rfl rfl)
theorem dL_law_734 : decode cL_law 734 = .ok (.aload_n 3, 1) := dk_45 (dk_at dksL_law_24 10 rfl rfl)
theorem dL_law_735 : decode cL_law 735 = .ok (.iconst 0, 1) := dk_3 (dk_at dksL_law_24 11 rfl rfl)
theorem dL_law_736 : decode cL_law 736 = .ok (.laload, 1) := dk_47 (dk_at dksL_law_24 12 rfl rfl)
theorem dL_law_737 : decode cL_law 737 = .ok (.iload 6, 2) := dk_21 6 (dk_at dksL_law_24 13 rfl rfl)
theorem dL_law_739 : decode cL_law 739 = .ok (.i2l, 1) := dk_133 (dk_at dksL_law_24 15 rfl rfl)
theorem dL_law_740 : decode cL_law 740 = .ok (.lcmp, 1) := dk_148 (dk_at dksL_law_24 16 rfl rfl)
theorem dL_law_741 : decode cL_law 741 = .ok (.ifCond .eq 5, 3) := dk_153 0 5 (dk_at dksL_law_24 17 rfl rfl)
theorem dL_law_744 : decode cL_law 744 = .ok (.iconst 0, 1) := dk_3 (dk_at dksL_law_24 20 rfl rfl)
theorem dL_law_745 : decode cL_law 745 = .ok (.ireturn, 1) := dk_172 (dk_at dksL_law_24 21 rfl rfl)
theorem dL_law_746 : decode cL_law 746 = .ok (.goto 1572, 3) := dk_167 6 36 (dk_at dksL_law_25 0 rfl rfl)
theorem dL_law_749 : decode cL_law 749 = .ok (.aload_n 1, 1) := dk_43 (dk_at dksL_law_25 3 rfl rfl)
theorem dL_law_750 : decode cL_law 750 = .ok (.invokevirtual 166, 3) := dk_182 0 166 (dk_at dksL_law_25 4 rfl rfl)
theorem dL_law_753 : decode cL_law 753 = .ok (.aload_n 2, 1) := dk_44 (dk_at dksL_law_25 7 rfl rfl)
theorem dL_law_754 : decode cL_law 754 = .ok (.invokevirtual 170, 3) := dk_182 0 170 (dk_at dksL_law_25 8 rfl rfl)
theorem dL_law_757 : decode cL_law 757 = .ok (.if_icmp .eq 1561, 3) := dk_159 6 25 (dk_at dksL_law_25 11 rfl rfl)
theorem dL_law_760 : decode cL_law 760 = .ok (.iconst 0, 1) := dk_3 (dk_at dksL_law_25 14 rfl rfl)
theorem dL_law_761 : decode cL_law 761 = .ok (.ireturn, 1) := dk_172 (dk_at dksL_law_25 15 rfl rfl)
theorem dL_law_762 : decode cL_law 762 = .ok (.aload_n 1, 1) := dk_43 (dk_at dksL_law_25 16 rfl rfl)
theorem dL_law_763 : decode cL_law 763 = .ok (.aload_n 3, 1) := dk_45 (dk_at dksL_law_25 17 rfl rfl)
theorem dL_law_764 : decode cL_law 764 = .ok (.invokestatic 171, 3) := dk_184 0 171 (dk_at dksL_law_25 18 rfl rfl)
theorem dL_law_767 : decode cL_law 767 = .ok (.istore 5, 2) := dk_54 5 (dk_at dksL_law_25 21 rfl rfl)
theorem dL_law_769 : decode cL_law 769 = .ok (.aload_n 2, 1) := dk_44 (dk_at dksL_law_25 23 rfl rfl)
theorem dL_law_770 : decode cL_law 770 = .ok (.invokevirtual 173, 3) := dk_182 0 173 (dk_at dksL_law_26 0 rfl rfl)
theorem dL_law_773 : decode cL_law 773 = .ok (.istore 6, 2) := dk_54 6 (dk_at dksL_law_26 3 rfl rfl)
theorem dL_law_775 : decode cL_law 775 = .ok (.aload_n 2, 1) := dk_44 (dk_at dksL_law_26 5 rfl rfl)
theorem dL_law_776 : decode cL_law 776 = .ok (.invokevirtual 123, 3) := dk_182 0 123 (dk_at dksL_law_26 6 rfl rfl)
theorem dL_law_779 : decode cL_law 779 = .ok (.iload 5, 2) := dk_21 5 (dk_at dksL_law_26 9 rfl rfl)
theorem dL_law_781 : decode cL_law 781 = .ok (.if_icmp .eq 5, 3) := dk_159 0 5 (dk_at dksL_law_26 11 rfl rfl)
theorem dL_law_784 : decode cL_law 784 = .ok (.iconst 0, 1) := dk_3 (dk_at dksL_law_26 14 rfl rfl)
theorem dL_law_785 : decode cL_law 785 = .ok (.ireturn, 1) := dk_172 (dk_at dksL_law_26 15 rfl rfl)
theorem dL_law_786 : decode cL_law 786 = .ok (.iload 5, 2) := dk_21 5 (dk_at dksL_law_26 16 rfl rfl)
theorem dL_law_788 : decode cL_law 788 = .ok (.ifCond .ne 15, 3) := dk_154 0 15 (dk_at dksL_law_26 18 rfl rfl)
theorem dL_law_791 : decode cL_law 791 = .ok (.aload_n 3, 1) := dk_45 (dk_at dksL_law_26 21 rfl rfl)
theorem dL_law_792 : decode cL_law 792 = .ok (.iconst 0, 1) := dk_3 (dk_at dksL_law_26 22 rfl rfl)
theorem dL_law_793 : decode cL_law 793 = .ok (.laload, 1) := dk_47 (dk_at dksL_law_26 23 rfl rfl)
theorem dL_law_794 : decode cL_law 794 = .ok (.iload 6, 2) := dk_21 6 (dk_at dksL_law_27 0 rfl rfl)
theorem dL_law_796 : decode cL_law 796 = .ok (.i2l, 1) := dk_133 (dk_at dksL_law_27 2 rfl rfl)
theorem dL_law_797 : decode cL_law 797 = .ok (.lcmp, 1) := dk_148 (dk_at dksL_law_27 3 rfl rfl)
theorem dL_law_798 : decode cL_law 798 = .ok (.ifCond .eq 5, 3) := dk_153 0 5 (dk_at dksL_law_27 4 rfl rfl)
theorem dL_law_801 : decode cL_law 801 = .ok (.iconst 0, 1) := dk_3 (dk_at dksL_law_27 7 rfl rfl)
theorem dL_law_802 : decode cL_law 802 = .ok (.ireturn, 1) := dk_172 (dk_at dksL_law_27 8 rfl rfl)
theorem dL_law_803 : decode cL_law 803 = .ok (.goto 1515, 3) := dk_167 5 235 (dk_at dksL_law_27 9 rfl rfl)
theorem dL_law_806 : decode cL_law 806 = .ok (.aload_n 1, 1) := dk_43 (dk_at dksL_law_27 12 rfl rfl)
theorem dL_law_807 : decode cL_law 807 = .ok (.aload_n 3, 1) := dk_45 (dk_at dksL_law_27 13 rfl rfl)
theorem dL_law_808 : decode cL_law 808 = .ok (.invokestatic 174, 3) := dk_184 0 174 (dk_at dksL_law_27 14 rfl rfl)
theorem dL_law_811 : decode cL_law 811 = .ok (.istore 5, 2) := dk_54 5 (dk_at dksL_law_27 17 rfl rfl)
theorem dL_law_813 : decode cL_law 813 = .ok (.aload_n 2, 1) := dk_44 (dk_at dksL_law_27 19 rfl rfl)
theorem dL_law_814 : decode cL_law 814 = .ok (.invokevirtual 176, 3) := dk_182 0 176 (dk_at dksL_law_27 20 rfl rfl)
theorem dL_law_817 : decode cL_law 817 = .ok (.istore 6, 2) := dk_54 6 (dk_at dksL_law_28 0 rfl rfl)
theorem dL_law_819 : decode cL_law 819 = .ok (.aload_n 2, 1) := dk_44 (dk_at dksL_law_28 2 rfl rfl)
theorem dL_law_820 : decode cL_law 820 = .ok (.invokevirtual 123, 3) := dk_182 0 123 (dk_at dksL_law_28 3 rfl rfl)
theorem dL_law_823 : decode cL_law 823 = .ok (.iload 5, 2) := dk_21 5 (dk_at dksL_law_28 6 rfl rfl)
theorem dL_law_825 : decode cL_law 825 = .ok (.if_icmp .eq 5, 3) := dk_159 0 5 (dk_at dksL_law_28 8 rfl rfl)
theorem dL_law_828 : decode cL_law 828 = .ok (.iconst 0, 1) := dk_3 (dk_at dksL_law_28 11 rfl rfl)
theorem dL_law_829 : decode cL_law 829 = .ok (.ireturn, 1) := dk_172 (dk_at dksL_law_28 12 rfl rfl)
theorem dL_law_830 : decode cL_law 830 = .ok (.iload 5, 2) := dk_21 5 (dk_at dksL_law_28 13 rfl rfl)
theorem dL_law_832 : decode cL_law 832 = .ok (.ifCond .ne 15, 3) := dk_154 0 15 (dk_at dksL_law_28 15 rfl rfl)
theorem dL_law_835 : decode cL_law 835 = .ok (.aload_n 3, 1) := dk_45 (dk_at dksL_law_28 18 rfl rfl)
theorem dL_law_836 : decode cL_law 836 = .ok (.iconst 0, 1) := dk_3 (dk_at dksL_law_28 19 rfl rfl)
theorem dL_law_837 : decode cL_law 837 = .ok (.laload, 1) := dk_47 (dk_at dksL_law_28 20 rfl rfl)
theorem dL_law_838 : decode cL_law 838 = .ok (.iload 6, 2) := dk_21 6 (dk_at dksL_law_28 21 rfl rfl)
theorem dL_law_840 : decode cL_law 840 = .ok (.i2l, 1) := dk_133 (dk_at dksL_law_28 23 rfl rfl)
theorem dL_law_841 : decode cL_law 841 = .ok (.lcmp, 1) := dk_148 (dk_at dksL_law_29 0 rfl rfl)
theorem dL_law_842 : decode cL_law 842 = .ok (.ifCond .eq 5, 3) := dk_153 0 5 (dk_at dksL_law_29 1 rfl rfl)
theorem dL_law_845 : decode cL_law 845 = .ok (.iconst 0, 1) := dk_3 (dk_at dksL_law_29 4 rfl rfl)
theorem dL_law_846 : decode cL_law 846 = .ok (.ireturn, 1) := dk_172 (dk_at dksL_law_29 5 rfl rfl)
theorem dL_law_847 : decode cL_law 847 = .ok (.goto 1471, 3) := dk_167 5 191 (dk_at dksL_law_29 6 rfl rfl)
theorem dL_law_850 : decode cL_law 850 = .ok (.aload_n 1, 1) := dk_43 (dk_at dksL_law_29 9 rfl rfl)
theorem dL_law_851 : decode cL_law 851 = .ok (.aload_n 3, 1) := dk_45 (dk_at dksL_law_29 10 rfl rfl)
theorem dL_law_852 : decode cL_law 852 = .ok (.invokestatic 177, 3) := dk_184 0 177 (dk_at dksL_law_29 11 rfl rfl)
theorem dL_law_855 : decode cL_law 855 = .ok (.istore 5, 2) := dk_54 5 (dk_at dksL_law_29 14 rfl rfl)
theorem dL_law_857 : decode cL_law 857 = .ok (.aload_n 2, 1) := dk_44 (dk_at dksL_law_29 16 rfl rfl)
theorem dL_law_858 : decode cL_law 858 = .ok (.invokevirtual 179, 3) := dk_182 0 179 (dk_at dksL_law_29 17 rfl rfl)
theorem dL_law_861 : decode cL_law 861 = .ok (.istore 6, 2) := dk_54 6 (dk_at dksL_law_29 20 rfl rfl)
theorem dL_law_863 : decode cL_law 863 = .ok (.aload_n 2, 1) := dk_44 (dk_at dksL_law_29 22 rfl rfl)
theorem dL_law_864 : decode cL_law 864 = .ok (.invokevirtual 123, 3) := dk_182 0 123 (dk_at dksL_law_30 0 rfl rfl)
theorem dL_law_867 : decode cL_law 867 = .ok (.iload 5, 2) := dk_21 5 (dk_at dksL_law_30 3 rfl rfl)
theorem dL_law_869 : decode cL_law 869 = .ok (.if_icmp .eq 5, 3) := dk_159 0 5 (dk_at dksL_law_30 5 rfl rfl)
theorem dL_law_872 : decode cL_law 872 = .ok (.iconst 0, 1) := dk_3 (dk_at dksL_law_30 8 rfl rfl)
theorem dL_law_873 : decode cL_law 873 = .ok (.ireturn, 1) := dk_172 (dk_at dksL_law_30 9 rfl rfl)
theorem dL_law_874 : decode cL_law 874 = .ok (.iload 5, 2) := dk_21 5 (dk_at dksL_law_30 10 rfl rfl)
theorem dL_law_876 : decode cL_law 876 = .ok (.ifCond .ne 15, 3) := dk_154 0 15 (dk_at dksL_law_30 12 rfl rfl)
theorem dL_law_879 : decode cL_law 879 = .ok (.aload_n 3, 1) := dk_45 (dk_at dksL_law_30 15 rfl rfl)
theorem dL_law_880 : decode cL_law 880 = .ok (.iconst 0, 1) := dk_3 (dk_at dksL_law_30 16 rfl rfl)
theorem dL_law_881 : decode cL_law 881 = .ok (.laload, 1) := dk_47 (dk_at dksL_law_30 17 rfl rfl)
theorem dL_law_882 : decode cL_law 882 = .ok (.iload 6, 2) := dk_21 6 (dk_at dksL_law_30 18 rfl rfl)
theorem dL_law_884 : decode cL_law 884 = .ok (.i2l, 1) := dk_133 (dk_at dksL_law_30 20 rfl rfl)
theorem dL_law_885 : decode cL_law 885 = .ok (.lcmp, 1) := dk_148 (dk_at dksL_law_30 21 rfl rfl)
theorem dL_law_886 : decode cL_law 886 = .ok (.ifCond .eq 5, 3) := dk_153 0 5 (dk_at dksL_law_31 0 rfl rfl)
theorem dL_law_889 : decode cL_law 889 = .ok (.iconst 0, 1) := dk_3 (dk_at dksL_law_31 3 rfl rfl)
theorem dL_law_890 : decode cL_law 890 = .ok (.ireturn, 1) := dk_172 (dk_at dksL_law_31 4 rfl rfl)
theorem dL_law_891 : decode cL_law 891 = .ok (.goto 1427, 3) := dk_167 5 147 (dk_at dksL_law_31 5 rfl rfl)
theorem dL_law_894 : decode cL_law 894 = .ok (.aload_n 1, 1) := dk_43 (dk_at dksL_law_31 8 rfl rfl)
theorem dL_law_895 : decode cL_law 895 = .ok (.invokevirtual 180, 3) := dk_182 0 180 (dk_at dksL_law_31 9 rfl rfl)
theorem dL_law_898 : decode cL_law 898 = .ok (.aload_n 2, 1) := dk_44 (dk_at dksL_law_31 12 rfl rfl)
theorem dL_law_899 : decode cL_law 899 = .ok (.invokevirtual 183, 3) := dk_182 0 183 (dk_at dksL_law_31 13 rfl rfl)
theorem dL_law_902 : decode cL_law 902 = .ok (.if_icmp .eq 1416, 3) := dk_159 5 136 (dk_at dksL_law_31 16 rfl rfl)
theorem dL_law_905 : decode cL_law 905 = .ok (.iconst 0, 1) := dk_3 (dk_at dksL_law_31 19 rfl rfl)
theorem dL_law_906 : decode cL_law 906 = .ok (.ireturn, 1) := dk_172 (dk_at dksL_law_31 20 rfl rfl)
theorem dL_law_907 : decode cL_law 907 = .ok (.aload_n 1, 1) := dk_43 (dk_at dksL_law_31 21 rfl rfl)
theorem dL_law_908 : decode cL_law 908 = .ok (.aload_n 3, 1) := dk_45 (dk_at dksL_law_31 22 rfl rfl)
theorem dL_law_909 : decode cL_law 909 = .ok (.invokestatic 184, 3) := dk_184 0 184 (dk_at dksL_law_32 0 rfl rfl)
theorem dL_law_912 : decode cL_law 912 = .ok (.istore 5, 2) := dk_54 5 (dk_at dksL_law_32 3 rfl rfl)
theorem dL_law_914 : decode cL_law 914 = .ok (.aload_n 2, 1) := dk_44 (dk_at dksL_law_32 5 rfl rfl)
theorem dL_law_915 : decode cL_law 915 = .ok (.invokevirtual 186, 3) := dk_182 0 186 (dk_at dksL_law_32 6 rfl rfl)
theorem dL_law_918 : decode cL_law 918 = .ok (.istore 6, 2) := dk_54 6 (dk_at dksL_law_32 9 rfl rfl)
theorem dL_law_920 : decode cL_law 920 = .ok (.aload_n 2, 1) := dk_44 (dk_at dksL_law_32 11 rfl rfl)
theorem dL_law_921 : decode cL_law 921 = .ok (.invokevirtual 123, 3) := dk_182 0 123 (dk_at dksL_law_32 12 rfl rfl)
theorem dL_law_924 : decode cL_law 924 = .ok (.iload 5, 2) := dk_21 5 (dk_at dksL_law_32 15 rfl rfl)
theorem dL_law_926 : decode cL_law 926 = .ok (.if_icmp .eq 5, 3) := dk_159 0 5 (dk_at dksL_law_32 17 rfl rfl)
theorem dL_law_929 : decode cL_law 929 = .ok (.iconst 0, 1) := dk_3 (dk_at dksL_law_32 20 rfl rfl)
theorem dL_law_930 : decode cL_law 930 = .ok (.ireturn, 1) := dk_172 (dk_at dksL_law_32 21 rfl rfl)
theorem dL_law_931 : decode cL_law 931 = .ok (.iload 5, 2) := dk_21 5 (dk_at dksL_law_32 22 rfl rfl)
theorem dL_law_933 : decode cL_law 933 = .ok (.ifCond .ne 15, 3) := dk_154 0 15 (dk_at dksL_law_33 0 rfl rfl)
theorem dL_law_936 : decode cL_law 936 = .ok (.aload_n 3, 1) := dk_45 (dk_at dksL_law_33 3 rfl rfl)
theorem dL_law_937 : decode cL_law 937 = .ok (.iconst 0, 1) := dk_3 (dk_at dksL_law_33 4 rfl rfl)
theorem dL_law_938 : decode cL_law 938 = .ok (.laload, 1) := dk_47 (dk_at dksL_law_33 5 rfl rfl)
theorem dL_law_939 : decode cL_law 939 = .ok (.iload 6, 2) := dk_21 6 (dk_at dksL_law_33 6 rfl rfl)
theorem dL_law_941 : decode cL_law 941 = .ok (.i2l, 1) := dk_133 (dk_at dksL_law_33 8 rfl rfl)
theorem dL_law_942 : decode cL_law 942 = .ok (.lcmp, 1) := dk_148 (dk_at dksL_law_33 9 rfl rfl)
theorem dL_law_943 : decode cL_law 943 = .ok (.ifCond .eq 5, 3) := dk_153 0 5 (dk_at dksL_law_33 10 rfl rfl)
theorem dL_law_946 : decode cL_law 946 = .ok (.iconst 0, 1) := dk_3 (dk_at dksL_law_33 13 rfl rfl)
theorem dL_law_947 : decode cL_law 947 = .ok (.ireturn, 1) := dk_172 (dk_at dksL_law_33 14 rfl rfl)
theorem dL_law_948 : decode cL_law 948 = .ok (.goto 1370, 3) := dk_167 5 90 (dk_at dksL_law_33 15 rfl rfl)
theorem dL_law_951 : decode cL_law 951 = .ok (.aload_n 1, 1) := dk_43 (dk_at dksL_law_33 18 rfl rfl)
theorem dL_law_952 : decode cL_law 952 = .ok (.invokevirtual 187, 3) := dk_182 0 187 (dk_at dksL_law_33 19 rfl rfl)
theorem dL_law_955 : decode cL_law 955 = .ok (.aload_n 2, 1) := dk_44 (dk_at dksL_law_33 22 rfl rfl)
theorem dL_law_956 : decode cL_law 956 = .ok (.invokevirtual 190, 3) := dk_182 0 190 (dk_at dksL_law_34 0 rfl rfl)
theorem dL_law_959 : decode cL_law 959 = .ok (.if_icmp .eq 1359, 3) := dk_159 5 79 (dk_at dksL_law_34 3 rfl rfl)
theorem dL_law_962 : decode cL_law 962 = .ok (.iconst 0, 1) := dk_3 (dk_at dksL_law_34 6 rfl rfl)
theorem dL_law_963 : decode cL_law 963 = .ok (.ireturn, 1) := dk_172 (dk_at dksL_law_34 7 rfl rfl)
theorem dL_law_964 : decode cL_law 964 = .ok (.aload_n 1, 1) := dk_43 (dk_at dksL_law_34 8 rfl rfl)
theorem dL_law_965 : decode cL_law 965 = .ok (.aload_n 0, 1) := dk_42 (dk_at dksL_law_34 9 rfl rfl)
theorem dL_law_966 : decode cL_law 966 = .ok (.iload 4, 2) := dk_21 4 (dk_at dksL_law_34 10 rfl rfl)
theorem dL_law_968 : decode cL_law 968 = .ok (.iconst 1, 1) := dk_4 (dk_at dksL_law_34 12 rfl rfl)
theorem dL_law_969 : decode cL_law 969 = .ok (.iadd, 1) := dk_96 (dk_at dksL_law_34 13 rfl rfl)
theorem dL_law_970 : decode cL_law 970 = .ok (.iaload, 1) := dk_46 (dk_at dksL_law_34 14 rfl rfl)
theorem dL_law_971 : decode cL_law 971 = .ok (.aload_n 0, 1) := dk_42 (dk_at dksL_law_34 15 rfl rfl)
theorem dL_law_972 : decode cL_law 972 = .ok (.iload 4, 2) := dk_21 4 (dk_at dksL_law_34 16 rfl rfl)
theorem dL_law_974 : decode cL_law 974 = .ok (.iconst 2, 1) := dk_5 (dk_at dksL_law_34 18 rfl rfl)
theorem dL_law_975 : decode cL_law 975 = .ok (.iadd, 1) := dk_96 (dk_at dksL_law_34 19 rfl rfl)
theorem dL_law_976 : decode cL_law 976 = .ok (.iaload, 1) := dk_46 (dk_at dksL_law_34 20 rfl rfl)
theorem dL_law_977 : decode cL_law 977 = .ok (.aload_n 3, 1) := dk_45 (dk_at dksL_law_34 21 rfl rfl)
theorem dL_law_978 : decode cL_law 978 = .ok (.invokestatic 191, 3) := dk_184 0 191 (dk_at dksL_law_35 0 rfl rfl)
theorem dL_law_981 : decode cL_law 981 = .ok (.istore 5, 2) := dk_54 5 (dk_at dksL_law_35 3 rfl rfl)
theorem dL_law_983 : decode cL_law 983 = .ok (.aload_n 2, 1) := dk_44 (dk_at dksL_law_35 5 rfl rfl)
theorem dL_law_984 : decode cL_law 984 = .ok (.aload_n 0, 1) := dk_42 (dk_at dksL_law_35 6 rfl rfl)
theorem dL_law_985 : decode cL_law 985 = .ok (.iload 4, 2) := dk_21 4 (dk_at dksL_law_35 7 rfl rfl)
theorem dL_law_987 : decode cL_law 987 = .ok (.iconst 1, 1) := dk_4 (dk_at dksL_law_35 9 rfl rfl)
theorem dL_law_988 : decode cL_law 988 = .ok (.iadd, 1) := dk_96 (dk_at dksL_law_35 10 rfl rfl)
theorem dL_law_989 : decode cL_law 989 = .ok (.iaload, 1) := dk_46 (dk_at dksL_law_35 11 rfl rfl)
theorem dL_law_990 : decode cL_law 990 = .ok (.aload_n 0, 1) := dk_42 (dk_at dksL_law_35 12 rfl rfl)
theorem dL_law_991 : decode cL_law 991 = .ok (.iload 4, 2) := dk_21 4 (dk_at dksL_law_35 13 rfl rfl)
theorem dL_law_993 : decode cL_law 993 = .ok (.iconst 2, 1) := dk_5 (dk_at dksL_law_35 15 rfl rfl)
theorem dL_law_994 : decode cL_law 994 = .ok (.iadd, 1) := dk_96 (dk_at dksL_law_35 16 rfl rfl)
theorem dL_law_995 : decode cL_law 995 = .ok (.iaload, 1) := dk_46 (dk_at dksL_law_35 17 rfl rfl)
theorem dL_law_996 : decode cL_law 996 = .ok (.invokevirtual 194, 3) := dk_182 0 194 (dk_at dksL_law_35 18 rfl rfl)
theorem dL_law_999 : decode cL_law 999 = .ok (.istore 6, 2) := dk_54 6 (dk_at dksL_law_35 21 rfl rfl)
theorem dL_law_1001 : decode cL_law 1001 = .ok (.aload_n 2, 1) := dk_44 (dk_at dksL_law_35 23 rfl rfl)
theorem dL_law_1002 : decode cL_law 1002 = .ok (.invokevirtual 123, 3) := dk_182 0 123 (dk_at dksL_law_36 0 rfl rfl)
theorem dL_law_1005 : decode cL_law 1005 = .ok (.iload 5, 2) := dk_21 5 (dk_at dksL_law_36 3 rfl rfl)
theorem dL_law_1007 : decode cL_law 1007 = .ok (.if_icmp .eq 5, 3) := dk_159 0 5 (dk_at dksL_law_36 5 rfl rfl)
theorem dL_law_1010 : decode cL_law 1010 = .ok (.iconst 0, 1) := dk_3 (dk_at dksL_law_36 8 rfl rfl)
theorem dL_law_1011 : decode cL_law 1011 = .ok (.ireturn, 1) := dk_172 (dk_at dksL_law_36 9 rfl rfl)
theorem dL_law_1012 : decode cL_law 1012 = .ok (.iload 5, 2) := dk_21 5 (dk_at dksL_law_36 10 rfl rfl)
theorem dL_law_1014 : decode cL_law 1014 = .ok (.ifCond .ne 15, 3) := dk_154 0 15 (dk_at dksL_law_36 12 rfl rfl)
theorem dL_law_1017 : decode cL_law 1017 = .ok (.aload_n 3, 1) := dk_45 (dk_at dksL_law_36 15 rfl rfl)
theorem dL_law_1018 : decode cL_law 1018 = .ok (.iconst 0, 1) := dk_3 (dk_at dksL_law_36 16 rfl rfl)
theorem dL_law_1019 : decode cL_law 1019 = .ok (.laload, 1) := dk_47 (dk_at dksL_law_36 17 rfl rfl)
theorem dL_law_1020 : decode cL_law 1020 = .ok (.iload 6, 2) := dk_21 6 (dk_at dksL_law_36 18 rfl rfl)
theorem dL_law_1022 : decode cL_law 1022 = .ok (.i2l, 1) := dk_133 (dk_at dksL_law_36 20 rfl rfl)
theorem dL_law_1023 : decode cL_law 1023 = .ok (.lcmp, 1) := dk_148 (dk_at dksL_law_36 21 rfl rfl)
theorem dL_law_1024 : decode cL_law 1024 = .ok (.ifCond .eq 5, 3) := dk_153 0 5 (dk_at dksL_law_37 0 rfl rfl)
theorem dL_law_1027 : decode cL_law 1027 = .ok (.iconst 0, 1) := dk_3 (dk_at dksL_law_37 3 rfl rfl)
theorem dL_law_1028 : decode cL_law 1028 = .ok (.ireturn, 1) := dk_172 (dk_at dksL_law_37 4 rfl rfl)
theorem dL_law_1029 : decode cL_law 1029 = .ok (.goto 1289, 3) := dk_167 5 9 (dk_at dksL_law_37 5 rfl rfl)
theorem dL_law_1032 : decode cL_law 1032 = .ok (.aload_n 1, 1) := dk_43 (dk_at dksL_law_37 8 rfl rfl)
theorem dL_law_1033 : decode cL_law 1033 = .ok (.invokevirtual 195, 3) := dk_182 0 195 (dk_at dksL_law_37 9 rfl rfl)
theorem dL_law_1036 : decode cL_law 1036 = .ok (.aload_n 2, 1) := dk_44 (dk_at dksL_law_37 12 rfl rfl)
theorem dL_law_1037 : decode cL_law 1037 = .ok (.invokevirtual 198, 3) := dk_182 0 198 (dk_at dksL_law_37 13 rfl rfl)
theorem dL_law_1040 : decode cL_law 1040 = .ok (.if_icmp .eq 1278, 3) := dk_159 4 254 (dk_at dksL_law_37 16 rfl rfl)
theorem dL_law_1043 : decode cL_law 1043 = .ok (.iconst 0, 1) := dk_3 (dk_at dksL_law_37 19 rfl rfl)
theorem dL_law_1044 : decode cL_law 1044 = .ok (.ireturn, 1) := dk_172 (dk_at dksL_law_37 20 rfl rfl)
theorem dL_law_1045 : decode cL_law 1045 = .ok (.aload_n 1, 1) := dk_43 (dk_at dksL_law_37 21 rfl rfl)
theorem dL_law_1046 : decode cL_law 1046 = .ok (.invokevirtual 199, 3) := dk_182 0 199 (dk_at dksL_law_38 0 rfl rfl)
theorem dL_law_1049 : decode cL_law 1049 = .ok (.aload_n 2, 1) := dk_44 (dk_at dksL_law_38 3 rfl rfl)
theorem dL_law_1050 : decode cL_law 1050 = .ok (.invokevirtual 202, 3) := dk_182 0 202 (dk_at dksL_law_38 4 rfl rfl)
theorem dL_law_1053 : decode cL_law 1053 = .ok (.if_icmp .eq 1265, 3) := dk_159 4 241 (dk_at dksL_law_38 7 rfl rfl)
theorem dL_law_1056 : decode cL_law 1056 = .ok (.iconst 0, 1) := dk_3 (dk_at dksL_law_38 10 rfl rfl)
theorem dL_law_1057 : decode cL_law 1057 = .ok (.ireturn, 1) := dk_172 (dk_at dksL_law_38 11 rfl rfl)
theorem dL_law_1058 : decode cL_law 1058 = .ok (.aload_n 1, 1) := dk_43 (dk_at dksL_law_38 12 rfl rfl)
theorem dL_law_1059 : decode cL_law 1059 = .ok (.aload_n 0, 1) := dk_42 (dk_at dksL_law_38 13 rfl rfl)
theorem dL_law_1060 : decode cL_law 1060 = .ok (.iload 4, 2) := dk_21 4 (dk_at dksL_law_38 14 rfl rfl)
theorem dL_law_1062 : decode cL_law 1062 = .ok (.iconst 1, 1) := dk_4 (dk_at dksL_law_38 16 rfl rfl)
theorem dL_law_1063 : decode cL_law 1063 = .ok (.iadd, 1) := dk_96 (dk_at dksL_law_38 17 rfl rfl)
theorem dL_law_1064 : decode cL_law 1064 = .ok (.iaload, 1) := dk_46 (dk_at dksL_law_38 18 rfl rfl)
theorem dL_law_1065 : decode cL_law 1065 = .ok (.aload_n 0, 1) := dk_42 (dk_at dksL_law_38 19 rfl rfl)
theorem dL_law_1066 : decode cL_law 1066 = .ok (.iload 4, 2) := dk_21 4 (dk_at dksL_law_38 20 rfl rfl)
theorem dL_law_1068 : decode cL_law 1068 = .ok (.iconst 2, 1) := dk_5 (dk_at dksL_law_38 22 rfl rfl)
theorem dL_law_1069 : decode cL_law 1069 = .ok (.iadd, 1) := dk_96 (dk_at dksL_law_38 23 rfl rfl)
theorem dL_law_1070 : decode cL_law 1070 = .ok (.iaload, 1) := dk_46 (dk_at dksL_law_39 0 rfl rfl)
theorem dL_law_1071 : decode cL_law 1071 = .ok (.aload_n 3, 1) := dk_45 (dk_at dksL_law_39 1 rfl rfl)
theorem dL_law_1072 : decode cL_law 1072 = .ok (.invokestatic 203, 3) := dk_184 0 203 (dk_at dksL_law_39 2 rfl rfl)
theorem dL_law_1075 : decode cL_law 1075 = .ok (.istore 5, 2) := dk_54 5 (dk_at dksL_law_39 5 rfl rfl)
theorem dL_law_1077 : decode cL_law 1077 = .ok (.aload_n 2, 1) := dk_44 (dk_at dksL_law_39 7 rfl rfl)
theorem dL_law_1078 : decode cL_law 1078 = .ok (.aload_n 0, 1) := dk_42 (dk_at dksL_law_39 8 rfl rfl)
theorem dL_law_1079 : decode cL_law 1079 = .ok (.iload 4, 2) := dk_21 4 (dk_at dksL_law_39 9 rfl rfl)
theorem dL_law_1081 : decode cL_law 1081 = .ok (.iconst 1, 1) := dk_4 (dk_at dksL_law_39 11 rfl rfl)
theorem dL_law_1082 : decode cL_law 1082 = .ok (.iadd, 1) := dk_96 (dk_at dksL_law_39 12 rfl rfl)
theorem dL_law_1083 : decode cL_law 1083 = .ok (.iaload, 1) := dk_46 (dk_at dksL_law_39 13 rfl rfl)
theorem dL_law_1084 : decode cL_law 1084 = .ok (.aload_n 0, 1) := dk_42 (dk_at dksL_law_39 14 rfl rfl)
theorem dL_law_1085 : decode cL_law 1085 = .ok (.iload 4, 2) := dk_21 4 (dk_at dksL_law_39 15 rfl rfl)
theorem dL_law_1087 : decode cL_law 1087 = .ok (.iconst 2, 1) := dk_5 (dk_at dksL_law_39 17 rfl rfl)
theorem dL_law_1088 : decode cL_law 1088 = .ok (.iadd, 1) := dk_96 (dk_at dksL_law_39 18 rfl rfl)
theorem dL_law_1089 : decode cL_law 1089 = .ok (.iaload, 1) := dk_46 (dk_at dksL_law_39 19 rfl rfl)
theorem dL_law_1090 : decode cL_law 1090 = .ok (.invokevirtual 205, 3) := dk_182 0 205 (dk_at dksL_law_39 20 rfl rfl)
theorem dL_law_1093 : decode cL_law 1093 = .ok (.istore 6, 2) := dk_54 6 (dk_at dksL_law_40 0 rfl rfl)
theorem dL_law_1095 : decode cL_law 1095 = .ok (.aload_n 2, 1) := dk_44 (dk_at dksL_law_40 2 rfl rfl)
theorem dL_law_1096 : decode cL_law 1096 = .ok (.invokevirtual 123, 3) := dk_182 0 123 (dk_at dksL_law_40 3 rfl rfl)
theorem dL_law_1099 : decode cL_law 1099 = .ok (.iload 5, 2) := dk_21 5 (dk_at dksL_law_40 6 rfl rfl)
theorem dL_law_1101 : decode cL_law 1101 = .ok (.if_icmp .eq 5, 3) := dk_159 0 5 (dk_at dksL_law_40 8 rfl rfl)
theorem dL_law_1104 : decode cL_law 1104 = .ok (.iconst 0, 1) := dk_3 (dk_at dksL_law_40 11 rfl rfl)
theorem dL_law_1105 : decode cL_law 1105 = .ok (.ireturn, 1) := dk_172 (dk_at dksL_law_40 12 rfl rfl)
theorem dL_law_1106 : decode cL_law 1106 = .ok (.iload 5, 2) := dk_21 5 (dk_at dksL_law_40 13 rfl rfl)
theorem dL_law_1108 : decode cL_law 1108 = .ok (.ifCond .ne 15, 3) := dk_154 0 15 (dk_at dksL_law_40 15 rfl rfl)
theorem dL_law_1111 : decode cL_law 1111 = .ok (.aload_n 3, 1) := dk_45 (dk_at dksL_law_40 18 rfl rfl)
theorem dL_law_1112 : decode cL_law 1112 = .ok (.iconst 0, 1) := dk_3 (dk_at dksL_law_40 19 rfl rfl)
theorem dL_law_1113 : decode cL_law 1113 = .ok (.laload, 1) := dk_47 (dk_at dksL_law_40 20 rfl rfl)
theorem dL_law_1114 : decode cL_law 1114 = .ok (.iload 6, 2) := dk_21 6 (dk_at dksL_law_40 21 rfl rfl)
theorem dL_law_1116 : decode cL_law 1116 = .ok (.i2l, 1) := dk_133 (dk_at dksL_law_40 23 rfl rfl)
theorem dL_law_1117 : decode cL_law 1117 = .ok (.lcmp, 1) := dk_148 (dk_at dksL_law_41 0 rfl rfl)
theorem dL_law_1118 : decode cL_law 1118 = .ok (.ifCond .eq 5, 3) := dk_153 0 5 (dk_at dksL_law_41 1 rfl rfl)
theorem dL_law_1121 : decode cL_law 1121 = .ok (.iconst 0, 1) := dk_3 (dk_at dksL_law_41 4 rfl rfl)
theorem dL_law_1122 : decode cL_law 1122 = .ok (.ireturn, 1) := dk_172 (dk_at dksL_law_41 5 rfl rfl)
theorem dL_law_1123 : decode cL_law 1123 = .ok (.goto 1195, 3) := dk_167 4 171 (dk_at dksL_law_41 6 rfl rfl)
theorem dL_law_1126 : decode cL_law 1126 = .ok (.aload_n 1, 1) := dk_43 (dk_at dksL_law_41 9 rfl rfl)
theorem dL_law_1127 : decode cL_law 1127 = .ok (.aload_n 0, 1) := dk_42 (dk_at dksL_law_41 10 rfl rfl)
theorem dL_law_1128 : decode cL_law 1128 = .ok (.iload 4, 2) := dk_21 4 (dk_at dksL_law_41 11 rfl rfl)
theorem dL_law_1130 : decode cL_law 1130 = .ok (.iconst 1, 1) := dk_4 (dk_at dksL_law_41 13 rfl rfl)
theorem dL_law_1131 : decode cL_law 1131 = .ok (.iadd, 1) := dk_96 (dk_at dksL_law_41 14 rfl rfl)
theorem dL_law_1132 : decode cL_law 1132 = .ok (.iaload, 1) := dk_46 (dk_at dksL_law_41 15 rfl rfl)
theorem dL_law_1133 : decode cL_law 1133 = .ok (.aload_n 0, 1) := dk_42 (dk_at dksL_law_41 16 rfl rfl)
theorem dL_law_1134 : decode cL_law 1134 = .ok (.iload 4, 2) := dk_21 4 (dk_at dksL_law_41 17 rfl rfl)
theorem dL_law_1136 : decode cL_law 1136 = .ok (.iconst 2, 1) := dk_5 (dk_at dksL_law_41 19 rfl rfl)
theorem dL_law_1137 : decode cL_law 1137 = .ok (.iadd, 1) := dk_96 (dk_at dksL_law_41 20 rfl rfl)
theorem dL_law_1138 : decode cL_law 1138 = .ok (.iaload, 1) := dk_46 (dk_at dksL_law_41 21 rfl rfl)
theorem dL_law_1139 : decode cL_law 1139 = .ok (.aload_n 3, 1) := dk_45 (dk_at dksL_law_41 22 rfl rfl)
theorem dL_law_1140 : decode cL_law 1140 = .ok (.invokestatic 206, 3) := dk_184 0 206 (dk_at dksL_law_42 0 rfl rfl)
theorem dL_law_1143 : decode cL_law 1143 = .ok (.istore 5, 2) := dk_54 5 (dk_at dksL_law_42 3 rfl rfl)
theorem dL_law_1145 : decode cL_law 1145 = .ok (.aload_n 2, 1) := dk_44 (dk_at dksL_law_42 5 rfl rfl)
theorem dL_law_1146 : decode cL_law 1146 = .ok (.aload_n 0, 1) := dk_42 (dk_at dksL_law_42 6 rfl rfl)
theorem dL_law_1147 : decode cL_law 1147 = .ok (.iload 4, 2) := dk_21 4 (dk_at dksL_law_42 7 rfl rfl)
theorem dL_law_1149 : decode cL_law 1149 = .ok (.iconst 1, 1) := dk_4 (dk_at dksL_law_42 9 rfl rfl)
theorem dL_law_1150 : decode cL_law 1150 = .ok (.iadd, 1) := dk_96 (dk_at dksL_law_42 10 rfl rfl)
theorem dL_law_1151 : decode cL_law 1151 = .ok (.iaload, 1) := dk_46 (dk_at dksL_law_42 11 rfl rfl)
theorem dL_law_1152 : decode cL_law 1152 = .ok (.aload_n 0, 1) := dk_42 (dk_at dksL_law_42 12 rfl rfl)
theorem dL_law_1153 : decode cL_law 1153 = .ok (.iload 4, 2) := dk_21 4 (dk_at dksL_law_42 13 rfl rfl)
theorem dL_law_1155 : decode cL_law 1155 = .ok (.iconst 2, 1) := dk_5 (dk_at dksL_law_42 15 rfl rfl)
theorem dL_law_1156 : decode cL_law 1156 = .ok (.iadd, 1) := dk_96 (dk_at dksL_law_42 16 rfl rfl)
theorem dL_law_1157 : decode cL_law 1157 = .ok (.iaload, 1) := dk_46 (dk_at dksL_law_42 17 rfl rfl)
theorem dL_law_1158 : decode cL_law 1158 = .ok (.invokevirtual 208, 3) := dk_182 0 208 (dk_at dksL_law_42 18 rfl rfl)
theorem dL_law_1161 : decode cL_law 1161 = .ok (.istore 6, 2) := dk_54 6 (dk_at dksL_law_42 21 rfl rfl)
theorem dL_law_1163 : decode cL_law 1163 = .ok (.aload_n 2, 1) := dk_44 (dk_at dksL_law_42 23 rfl rfl)
theorem dL_law_1164 : decode cL_law 1164 = .ok (.invokevirtual 123, 3) := dk_182 0 123 (dk_at dksL_law_43 0 rfl rfl)
theorem dL_law_1167 : decode cL_law 1167 = .ok (.iload 5, 2) := dk_21 5 (dk_at dksL_law_43 3 rfl rfl)
theorem dL_law_1169 : decode cL_law 1169 = .ok (.if_icmp .eq 5, 3) := dk_159 0 5 (dk_at dksL_law_43 5 rfl rfl)
theorem dL_law_1172 : decode cL_law 1172 = .ok (.iconst 0, 1) := dk_3 (dk_at dksL_law_43 8 rfl rfl)
theorem dL_law_1173 : decode cL_law 1173 = .ok (.ireturn, 1) := dk_172 (dk_at dksL_law_43 9 rfl rfl)
theorem dL_law_1174 : decode cL_law 1174 = .ok (.iload 5, 2) := dk_21 5 (dk_at dksL_law_43 10 rfl rfl)
theorem dL_law_1176 : decode cL_law 1176 = .ok (.ifCond .ne 15, 3) := dk_154 0 15 (dk_at dksL_law_43 12 rfl rfl)
theorem dL_law_1179 : decode cL_law 1179 = .ok (.aload_n 3, 1) := dk_45 (dk_at dksL_law_43 15 rfl rfl)
theorem dL_law_1180 : decode cL_law 1180 = .ok (.iconst 0, 1) := dk_3 (dk_at dksL_law_43 16 rfl rfl)
theorem dL_law_1181 : decode cL_law 1181 = .ok (.laload, 1) := dk_47 (dk_at dksL_law_43 17 rfl rfl)
theorem dL_law_1182 : decode cL_law 1182 = .ok (.iload 6, 2) := dk_21 6 (dk_at dksL_law_43 18 rfl rfl)
theorem dL_law_1184 : decode cL_law 1184 = .ok (.i2l, 1) := dk_133 (dk_at dksL_law_43 20 rfl rfl)
theorem dL_law_1185 : decode cL_law 1185 = .ok (.lcmp, 1) := dk_148 (dk_at dksL_law_43 21 rfl rfl)
theorem dL_law_1186 : decode cL_law 1186 = .ok (.ifCond .eq 5, 3) := dk_153 0 5 (dk_at dksL_law_44 0 rfl rfl)
theorem dL_law_1189 : decode cL_law 1189 = .ok (.iconst 0, 1) := dk_3 (dk_at dksL_law_44 3 rfl rfl)
theorem dL_law_1190 : decode cL_law 1190 = .ok (.ireturn, 1) := dk_172 (dk_at dksL_law_44 4 rfl rfl)
theorem dL_law_1191 : decode cL_law 1191 = .ok (.goto 1127, 3) := dk_167 4 103 (dk_at dksL_law_44 5 rfl rfl)
theorem dL_law_1194 : decode cL_law 1194 = .ok (.aload_n 1, 1) := dk_43 (dk_at dksL_law_44 8 rfl rfl)
theorem dL_law_1195 : decode cL_law 1195 = .ok (.aload_n 0, 1) := dk_42 (dk_at dksL_law_44 9 rfl rfl)
theorem dL_law_1196 : decode cL_law 1196 = .ok (.iload 4, 2) := dk_21 4 (dk_at dksL_law_44 10 rfl rfl)
theorem dL_law_1198 : decode cL_law 1198 = .ok (.iconst 1, 1) := dk_4 (dk_at dksL_law_44 12 rfl rfl)
theorem dL_law_1199 : decode cL_law 1199 = .ok (.iadd, 1) := dk_96 (dk_at dksL_law_44 13 rfl rfl)
theorem dL_law_1200 : decode cL_law 1200 = .ok (.iaload, 1) := dk_46 (dk_at dksL_law_44 14 rfl rfl)
theorem dL_law_1201 : decode cL_law 1201 = .ok (.aload_n 0, 1) := dk_42 (dk_at dksL_law_44 15 rfl rfl)
theorem dL_law_1202 : decode cL_law 1202 = .ok (.iload 4, 2) := dk_21 4 (dk_at dksL_law_44 16 rfl rfl)
theorem dL_law_1204 : decode cL_law 1204 = .ok (.iconst 2, 1) := dk_5 (dk_at dksL_law_44 18 rfl rfl)
theorem dL_law_1205 : decode cL_law 1205 = .ok (.iadd, 1) := dk_96 (dk_at dksL_law_44 19 rfl rfl)
theorem dL_law_1206 : decode cL_law 1206 = .ok (.iaload, 1) := dk_46 (dk_at dksL_law_44 20 rfl rfl)
theorem dL_law_1207 : decode cL_law 1207 = .ok (.aload_n 3, 1) := dk_45 (dk_at dksL_law_44 21 rfl rfl)
theorem dL_law_1208 : decode cL_law 1208 = .ok (.invokestatic 209, 3) := dk_184 0 209 (dk_at dksL_law_45 0 rfl rfl)
theorem dL_law_1211 : decode cL_law 1211 = .ok (.istore 5, 2) := dk_54 5 (dk_at dksL_law_45 3 rfl rfl)
theorem dL_law_1213 : decode cL_law 1213 = .ok (.aload_n 2, 1) := dk_44 (dk_at dksL_law_45 5 rfl rfl)
theorem dL_law_1214 : decode cL_law 1214 = .ok (.aload_n 0, 1) := dk_42 (dk_at dksL_law_45 6 rfl rfl)
theorem dL_law_1215 : decode cL_law 1215 = .ok (.iload 4, 2) := dk_21 4 (dk_at dksL_law_45 7 rfl rfl)
theorem dL_law_1217 : decode cL_law 1217 = .ok (.iconst 1, 1) := dk_4 (dk_at dksL_law_45 9 rfl rfl)
theorem dL_law_1218 : decode cL_law 1218 = .ok (.iadd, 1) := dk_96 (dk_at dksL_law_45 10 rfl rfl)
theorem dL_law_1219 : decode cL_law 1219 = .ok (.iaload, 1) := dk_46 (dk_at dksL_law_45 11 rfl rfl)
theorem dL_law_1220 : decode cL_law 1220 = .ok (.aload_n 0, 1) := dk_42 (dk_at dksL_law_45 12 rfl rfl)
theorem dL_law_1221 : decode cL_law 1221 = .ok (.iload 4, 2) := dk_21 4 (dk_at dksL_law_45 13 rfl rfl)
theorem dL_law_1223 : decode cL_law 1223 = .ok (.iconst 2, 1) := dk_5 (dk_at dksL_law_45 15 rfl rfl)
theorem dL_law_1224 : decode cL_law 1224 = .ok (.iadd, 1) := dk_96 (dk_at dksL_law_45 16 rfl rfl)
theorem dL_law_1225 : decode cL_law 1225 = .ok (.iaload, 1) := dk_46 (dk_at dksL_law_45 17 rfl rfl)
theorem dL_law_1226 : decode cL_law 1226 = .ok (.invokevirtual 211, 3) := dk_182 0 211 (dk_at dksL_law_45 18 rfl rfl)
theorem dL_law_1229 : decode cL_law 1229 = .ok (.istore 6, 2) := dk_54 6 (dk_at dksL_law_45 21 rfl rfl)
theorem dL_law_1231 : decode cL_law 1231 = .ok (.aload_n 2, 1) := dk_44 (dk_at dksL_law_45 23 rfl rfl)
theorem dL_law_1232 : decode cL_law 1232 = .ok (.invokevirtual 123, 3) := dk_182 0 123 (dk_at dksL_law_46 0 rfl rfl)
theorem dL_law_1235 : decode cL_law 1235 = .ok (.iload 5, 2) := dk_21 5 (dk_at dksL_law_46 3 rfl rfl)
theorem dL_law_1237 : decode cL_law 1237 = .ok (.if_icmp .eq 5, 3) := dk_159 0 5 (dk_at dksL_law_46 5 rfl rfl)
theorem dL_law_1240 : decode cL_law 1240 = .ok (.iconst 0, 1) := dk_3 (dk_at dksL_law_46 8 rfl rfl)
theorem dL_law_1241 : decode cL_law 1241 = .ok (.ireturn, 1) := dk_172 (dk_at dksL_law_46 9 rfl rfl)
theorem dL_law_1242 : decode cL_law 1242 = .ok (.iload 5, 2) := dk_21 5 (dk_at dksL_law_46 10 rfl rfl)
theorem dL_law_1244 : decode cL_law 1244 = .ok (.ifCond .ne 15, 3) := dk_154 0 15 (dk_at dksL_law_46 12 rfl rfl)
theorem dL_law_1247 : decode cL_law 1247 = .ok (.aload_n 3, 1) := dk_45 (dk_at dksL_law_46 15 rfl rfl)
theorem dL_law_1248 : decode cL_law 1248 = .ok (.iconst 0, 1) := dk_3 (dk_at dksL_law_46 16 rfl rfl)
theorem dL_law_1249 : decode cL_law 1249 = .ok (.laload, 1) := dk_47 (dk_at dksL_law_46 17 rfl rfl)
theorem dL_law_1250 : decode cL_law 1250 = .ok (.iload 6, 2) := dk_21 6 (dk_at dksL_law_46 18 rfl rfl)
theorem dL_law_1252 : decode cL_law 1252 = .ok (.i2l, 1) := dk_133 (dk_at dksL_law_46 20 rfl rfl)
theorem dL_law_1253 : decode cL_law 1253 = .ok (.lcmp, 1) := dk_148 (dk_at dksL_law_46 21 rfl rfl)
theorem dL_law_1254 : decode cL_law 1254 = .ok (.ifCond .eq 5, 3) := dk_153 0 5 (dk_at dksL_law_47 0 rfl rfl)
theorem dL_law_1257 : decode cL_law 1257 = .ok (.iconst 0, 1) := dk_3 (dk_at dksL_law_47 3 rfl rfl)
theorem dL_law_1258 : decode cL_law 1258 = .ok (.ireturn, 1) := dk_172 (dk_at dksL_law_47 4 rfl rfl)
theorem dL_law_1259 : decode cL_law 1259 = .ok (.goto 1059, 3) := dk_167 4 35 (dk_at dksL_law_47 5 rfl rfl)
theorem dL_law_1262 : decode cL_law 1262 = .ok (.aload_n 1, 1) := dk_43 (dk_at dksL_law_47 8 rfl rfl)
theorem dL_law_1263 : decode cL_law 1263 = .ok (.aload_n 0, 1) := dk_42 (dk_at dksL_law_47 9 rfl rfl)
theorem dL_law_1264 : decode cL_law 1264 = .ok (.iload 4, 2) := dk_21 4 (dk_at dksL_law_47 10 rfl rfl)
theorem dL_law_1266 : decode cL_law 1266 = .ok (.iconst 1, 1) := dk_4 (dk_at dksL_law_47 12 rfl rfl)
theorem dL_law_1267 : decode cL_law 1267 = .ok (.iadd, 1) := dk_96 (dk_at dksL_law_47 13 rfl rfl)
theorem dL_law_1268 : decode cL_law 1268 = .ok (.iaload, 1) := dk_46 (dk_at dksL_law_47 14 rfl rfl)
theorem dL_law_1269 : decode cL_law 1269 = .ok (.aload_n 3, 1) := dk_45 (dk_at dksL_law_47 15 rfl rfl)
theorem dL_law_1270 : decode cL_law 1270 = .ok (.invokestatic 212, 3) := dk_184 0 212 (dk_at dksL_law_47 16 rfl rfl)
theorem dL_law_1273 : decode cL_law 1273 = .ok (.istore 5, 2) := dk_54 5 (dk_at dksL_law_47 19 rfl rfl)
theorem dL_law_1275 : decode cL_law 1275 = .ok (.aload_n 2, 1) := dk_44 (dk_at dksL_law_47 21 rfl rfl)
theorem dL_law_1276 : decode cL_law 1276 = .ok (.aload_n 0, 1) := dk_42 (dk_at dksL_law_47 22 rfl rfl)
theorem dL_law_1277 : decode cL_law 1277 = .ok (.iload 4, 2) := dk_21 4 (dk_at dksL_law_48 0 rfl rfl)
theorem dL_law_1279 : decode cL_law 1279 = .ok (.iconst 1, 1) := dk_4 (dk_at dksL_law_48 2 rfl rfl)
theorem dL_law_1280 : decode cL_law 1280 = .ok (.iadd, 1) := dk_96 (dk_at dksL_law_48 3 rfl rfl)
theorem dL_law_1281 : decode cL_law 1281 = .ok (.iaload, 1) := dk_46 (dk_at dksL_law_48 4 rfl rfl)
theorem dL_law_1282 : decode cL_law 1282 = .ok (.invokevirtual 214, 3) := dk_182 0 214 (dk_at dksL_law_48 5 rfl rfl)
theorem dL_law_1285 : decode cL_law 1285 = .ok (.istore 6, 2) := dk_54 6 (dk_at dksL_law_48 8 rfl rfl)
theorem dL_law_1287 : decode cL_law 1287 = .ok (.aload_n 2, 1) := dk_44 (dk_at dksL_law_48 10 rfl rfl)
theorem dL_law_1288 : decode cL_law 1288 = .ok (.invokevirtual 123, 3) := dk_182 0 123 (dk_at dksL_law_48 11 rfl rfl)
theorem dL_law_1291 : decode cL_law 1291 = .ok (.iload 5, 2) := dk_21 5 (dk_at dksL_law_48 14 rfl rfl)
theorem dL_law_1293 : decode cL_law 1293 = .ok (.if_icmp .eq 5, 3) := dk_159 0 5 (dk_at dksL_law_48 16 rfl rfl)
theorem dL_law_1296 : decode cL_law 1296 = .ok (.iconst 0, 1) := dk_3 (dk_at dksL_law_48 19 rfl rfl)
theorem dL_law_1297 : decode cL_law 1297 = .ok (.ireturn, 1) := dk_172 (dk_at dksL_law_48 20 rfl rfl)
theorem dL_law_1298 : decode cL_law 1298 = .ok (.iload 5, 2) := dk_21 5 (dk_at dksL_law_48 21 rfl rfl)
theorem dL_law_1300 : decode cL_law 1300 = .ok (.ifCond .ne 15, 3) := dk_154 0 15 (dk_at dksL_law_49 0 rfl rfl)
theorem dL_law_1303 : decode cL_law 1303 = .ok (.aload_n 3, 1) := dk_45 (dk_at dksL_law_49 3 rfl rfl)
theorem dL_law_1304 : decode cL_law 1304 = .ok (.iconst 0, 1) := dk_3 (dk_at dksL_law_49 4 rfl rfl)
theorem dL_law_1305 : decode cL_law 1305 = .ok (.laload, 1) := dk_47 (dk_at dksL_law_49 5 rfl rfl)
theorem dL_law_1306 : decode cL_law 1306 = .ok (.iload 6, 2) := dk_21 6 (dk_at dksL_law_49 6 rfl rfl)
theorem dL_law_1308 : decode cL_law 1308 = .ok (.i2l, 1) := dk_133 (dk_at dksL_law_49 8 rfl rfl)
theorem dL_law_1309 : decode cL_law 1309 = .ok (.lcmp, 1) := dk_148 (dk_at dksL_law_49 9 rfl rfl)
theorem dL_law_1310 : decode cL_law 1310 = .ok (.ifCond .eq 5, 3) := dk_153 0 5 (dk_at dksL_law_49 10 rfl rfl)
theorem dL_law_1313 : decode cL_law 1313 = .ok (.iconst 0, 1) := dk_3 (dk_at dksL_law_49 13 rfl rfl)
theorem dL_law_1314 : decode cL_law 1314 = .ok (.ireturn, 1) := dk_172 (dk_at dksL_law_49 14 rfl rfl)
theorem dL_law_1315 : decode cL_law 1315 = .ok (.goto 1003, 3) := dk_167 3 235 (dk_at dksL_law_49 15 rfl rfl)
theorem dL_law_1318 : decode cL_law 1318 = .ok (.aload_n 1, 1) := dk_43 (dk_at dksL_law_49 18 rfl rfl)
theorem dL_law_1319 : decode cL_law 1319 = .ok (.aload_n 0, 1) := dk_42 (dk_at dksL_law_49 19 rfl rfl)
theorem dL_law_1320 : decode cL_law 1320 = .ok (.iload 4, 2) := dk_21 4 (dk_at dksL_law_49 20 rfl rfl)
theorem dL_law_1322 : decode cL_law 1322 = .ok (.iconst 1, 1) := dk_4 (dk_at dksL_law_49 22 rfl rfl)
theorem dL_law_1323 : decode cL_law 1323 = .ok (.iadd, 1) := dk_96 (dk_at dksL_law_49 23 rfl rfl)
theorem dL_law_1324 : decode cL_law 1324 = .ok (.iaload, 1) := dk_46 (dk_at dksL_law_50 0 rfl rfl)
theorem dL_law_1325 : decode cL_law 1325 = .ok (.aload_n 0, 1) := dk_42 (dk_at dksL_law_50 1 rfl rfl)
theorem dL_law_1326 : decode cL_law 1326 = .ok (.iload 4, 2) := dk_21 4 (dk_at dksL_law_50 2 rfl rfl)
theorem dL_law_1328 : decode cL_law 1328 = .ok (.iconst 2, 1) := dk_5 (dk_at dksL_law_50 4 rfl rfl)
theorem dL_law_1329 : decode cL_law 1329 = .ok (.iadd, 1) := dk_96 (dk_at dksL_law_50 5 rfl rfl)
theorem dL_law_1330 : decode cL_law 1330 = .ok (.iaload, 1) := dk_46 (dk_at dksL_law_50 6 rfl rfl)
theorem dL_law_1331 : decode cL_law 1331 = .ok (.aload_n 3, 1) := dk_45 (dk_at dksL_law_50 7 rfl rfl)
theorem dL_law_1332 : decode cL_law 1332 = .ok (.invokestatic 215, 3) := dk_184 0 215 (dk_at dksL_law_50 8 rfl rfl)
theorem dL_law_1335 : decode cL_law 1335 = .ok (.istore 5, 2) := dk_54 5 (dk_at dksL_law_50 11 rfl rfl)
theorem dL_law_1337 : decode cL_law 1337 = .ok (.aload_n 2, 1) := dk_44 (dk_at dksL_law_50 13 rfl rfl)
theorem dL_law_1338 : decode cL_law 1338 = .ok (.aload_n 0, 1) := dk_42 (dk_at dksL_law_50 14 rfl rfl)
theorem dL_law_1339 : decode cL_law 1339 = .ok (.iload 4, 2) := dk_21 4 (dk_at dksL_law_50 15 rfl rfl)
theorem dL_law_1341 : decode cL_law 1341 = .ok (.iconst 1, 1) := dk_4 (dk_at dksL_law_50 17 rfl rfl)
theorem dL_law_1342 : decode cL_law 1342 = .ok (.iadd, 1) := dk_96 (dk_at dksL_law_50 18 rfl rfl)
theorem dL_law_1343 : decode cL_law 1343 = .ok (.iaload, 1) := dk_46 (dk_at dksL_law_50 19 rfl rfl)
theorem dL_law_1344 : decode cL_law 1344 = .ok (.aload_n 0, 1) := dk_42 (dk_at dksL_law_50 20 rfl rfl)
theorem dL_law_1345 : decode cL_law 1345 = .ok (.iload 4, 2) := dk_21 4 (dk_at dksL_law_50 21 rfl rfl)
theorem dL_law_1347 : decode cL_law 1347 = .ok (.iconst 2, 1) := dk_5 (dk_at dksL_law_50 23 rfl rfl)
theorem dL_law_1348 : decode cL_law 1348 = .ok (.iadd, 1) := dk_96 (dk_at dksL_law_51 0 rfl rfl)
theorem dL_law_1349 : decode cL_law 1349 = .ok (.iaload, 1) := dk_46 (dk_at dksL_law_51 1 rfl rfl)
theorem dL_law_1350 : decode cL_law 1350 = .ok (.invokevirtual 217, 3) := dk_182 0 217 (dk_at dksL_law_51 2 rfl rfl)
theorem dL_law_1353 : decode cL_law 1353 = .ok (.istore 6, 2) := dk_54 6 (dk_at dksL_law_51 5 rfl rfl)
theorem dL_law_1355 : decode cL_law 1355 = .ok (.aload_n 2, 1) := dk_44 (dk_at dksL_law_51 7 rfl rfl)
theorem dL_law_1356 : decode cL_law 1356 = .ok (.invokevirtual 123, 3) := dk_182 0 123 (dk_at dksL_law_51 8 rfl rfl)
theorem dL_law_1359 : decode cL_law 1359 = .ok (.iload 5, 2) := dk_21 5 (dk_at dksL_law_51 11 rfl rfl)
theorem dL_law_1361 : decode cL_law 1361 = .ok (.if_icmp .eq 5, 3) := dk_159 0 5 (dk_at dksL_law_51 13 rfl rfl)
theorem dL_law_1364 : decode cL_law 1364 = .ok (.iconst 0, 1) := dk_3 (dk_at dksL_law_51 16 rfl rfl)
theorem dL_law_1365 : decode cL_law 1365 = .ok (.ireturn, 1) := dk_172 (dk_at dksL_law_51 17 rfl rfl)
theorem dL_law_1366 : decode cL_law 1366 = .ok (.iload 5, 2) := dk_21 5 (dk_at dksL_law_51 18 rfl rfl)
theorem dL_law_1368 : decode cL_law 1368 = .ok (.ifCond .ne 15, 3) := dk_154 0 15 (dk_at dksL_law_51 20 rfl rfl)
theorem dL_law_1371 : decode cL_law 1371 = .ok (.aload_n 3, 1) := dk_45 (dk_at dksL_law_51 23 rfl rfl)
theorem dL_law_1372 : decode cL_law 1372 = .ok (.iconst 0, 1) := dk_3 (dk_at dksL_law_52 0 rfl rfl)
theorem dL_law_1373 : decode cL_law 1373 = .ok (.laload, 1) := dk_47 (dk_at dksL_law_52 1 rfl rfl)
theorem dL_law_1374 : decode cL_law 1374 = .ok (.iload 6, 2) := dk_21 6 (dk_at dksL_law_52 2 rfl rfl)
theorem dL_law_1376 : decode cL_law 1376 = .ok (.i2l, 1) := dk_133 (dk_at dksL_law_52 4 rfl rfl)
theorem dL_law_1377 : decode cL_law 1377 = .ok (.lcmp, 1) := dk_148 (dk_at dksL_law_52 5 rfl rfl)
theorem dL_law_1378 : decode cL_law 1378 = .ok (.ifCond .eq 5, 3) := dk_153 0 5 (dk_at dksL_law_52 6 rfl rfl)
theorem dL_law_1381 : decode cL_law 1381 = .ok (.iconst 0, 1) := dk_3 (dk_at dksL_law_52 9 rfl rfl)
theorem dL_law_1382 : decode cL_law 1382 = .ok (.ireturn, 1) := dk_172 (dk_at dksL_law_52 10 rfl rfl)
theorem dL_law_1383 : decode cL_law 1383 = .ok (.goto 935, 3) := dk_167 3 167 (dk_at dksL_law_52 11 rfl rfl)
theorem dL_law_1386 : decode cL_law 1386 = .ok (.aload_n 1, 1) := dk_43 (dk_at dksL_law_52 14 rfl rfl)
theorem dL_law_1387 : decode cL_law 1387 = .ok (.aload_n 0, 1) := dk_42 (dk_at dksL_law_52 15 rfl rfl)
theorem dL_law_1388 : decode cL_law 1388 = .ok (.iload 4, 2) := dk_21 4 (dk_at dksL_law_52 16 rfl rfl)
theorem dL_law_1390 : decode cL_law 1390 = .ok (.iconst 1, 1) := dk_4 (dk_at dksL_law_52 18 rfl rfl)
theorem dL_law_1391 : decode cL_law 1391 = .ok (.iadd, 1) := dk_96 (dk_at dksL_law_52 19 rfl rfl)
theorem dL_law_1392 : decode cL_law 1392 = .ok (.iaload, 1) := dk_46 (dk_at dksL_law_52 20 rfl rfl)
theorem dL_law_1393 : decode cL_law 1393 = .ok (.aload_n 0, 1) := dk_42 (dk_at dksL_law_52 21 rfl rfl)
theorem dL_law_1394 : decode cL_law 1394 = .ok (.iload 4, 2) := dk_21 4 (dk_at dksL_law_52 22 rfl rfl)
theorem dL_law_1396 : decode cL_law 1396 = .ok (.iconst 2, 1) := dk_5 (dk_at dksL_law_53 0 rfl rfl)
theorem dL_law_1397 : decode cL_law 1397 = .ok (.iadd, 1) := dk_96 (dk_at dksL_law_53 1 rfl rfl)
theorem dL_law_1398 : decode cL_law 1398 = .ok (.iaload, 1) := dk_46 (dk_at dksL_law_53 2 rfl rfl)
theorem dL_law_1399 : decode cL_law 1399 = .ok (.aload_n 3, 1) := dk_45 (dk_at dksL_law_53 3 rfl rfl)
theorem dL_law_1400 : decode cL_law 1400 = .ok (.invokestatic 218, 3) := dk_184 0 218 (dk_at dksL_law_53 4 rfl rfl)
theorem dL_law_1403 : decode cL_law 1403 = .ok (.istore 5, 2) := dk_54 5 (dk_at dksL_law_53 7 rfl rfl)
theorem dL_law_1405 : decode cL_law 1405 = .ok (.aload_n 2, 1) := dk_44 (dk_at dksL_law_53 9 rfl rfl)
theorem dL_law_1406 : decode cL_law 1406 = .ok (.aload_n 0, 1) := dk_42 (dk_at dksL_law_53 10 rfl rfl)
theorem dL_law_1407 : decode cL_law 1407 = .ok (.iload 4, 2) := dk_21 4 (dk_at dksL_law_53 11 rfl rfl)
theorem dL_law_1409 : decode cL_law 1409 = .ok (.iconst 1, 1) := dk_4 (dk_at dksL_law_53 13 rfl rfl)
theorem dL_law_1410 : decode cL_law 1410 = .ok (.iadd, 1) := dk_96 (dk_at dksL_law_53 14 rfl rfl)
theorem dL_law_1411 : decode cL_law 1411 = .ok (.iaload, 1) := dk_46 (dk_at dksL_law_53 15 rfl rfl)
theorem dL_law_1412 : decode cL_law 1412 = .ok (.aload_n 0, 1) := dk_42 (dk_at dksL_law_53 16 rfl rfl)
theorem dL_law_1413 : decode cL_law 1413 = .ok (.iload 4, 2) := dk_21 4 (dk_at dksL_law_53 17 rfl rfl)
theorem dL_law_1415 : decode cL_law 1415 = .ok (.iconst 2, 1) := dk_5 (dk_at dksL_law_53 19 rfl rfl)
theorem dL_law_1416 : decode cL_law 1416 = .ok (.iadd, 1) := dk_96 (dk_at dksL_law_53 20 rfl rfl)
theorem dL_law_1417 : decode cL_law 1417 = .ok (.iaload, 1) := dk_46 (dk_at dksL_law_53 21 rfl rfl)
theorem dL_law_1418 : decode cL_law 1418 = .ok (.invokevirtual 220, 3) := dk_182 0 220 (dk_at dksL_law_54 0 rfl rfl)
theorem dL_law_1421 : decode cL_law 1421 = .ok (.istore 6, 2) := dk_54 6 (dk_at dksL_law_54 3 rfl rfl)
theorem dL_law_1423 : decode cL_law 1423 = .ok (.aload_n 2, 1) := dk_44 (dk_at dksL_law_54 5 rfl rfl)
theorem dL_law_1424 : decode cL_law 1424 = .ok (.invokevirtual 123, 3) := dk_182 0 123 (dk_at dksL_law_54 6 rfl rfl)
theorem dL_law_1427 : decode cL_law 1427 = .ok (.iload 5, 2) := dk_21 5 (dk_at dksL_law_54 9 rfl rfl)
theorem dL_law_1429 : decode cL_law 1429 = .ok (.if_icmp .eq 5, 3) := dk_159 0 5 (dk_at dksL_law_54 11 rfl rfl)
theorem dL_law_1432 : decode cL_law 1432 = .ok (.iconst 0, 1) := dk_3 (dk_at dksL_law_54 14 rfl rfl)
theorem dL_law_1433 : decode cL_law 1433 = .ok (.ireturn, 1) := dk_172 (dk_at dksL_law_54 15 rfl rfl)
theorem dL_law_1434 : decode cL_law 1434 = .ok (.iload 5, 2) := dk_21 5 (dk_at dksL_law_54 16 rfl rfl)
theorem dL_law_1436 : decode cL_law 1436 = .ok (.ifCond .ne 15, 3) := dk_154 0 15 (dk_at dksL_law_54 18 rfl rfl)
theorem dL_law_1439 : decode cL_law 1439 = .ok (.aload_n 3, 1) := dk_45 (dk_at dksL_law_54 21 rfl rfl)
theorem dL_law_1440 : decode cL_law 1440 = .ok (.iconst 0, 1) := dk_3 (dk_at dksL_law_54 22 rfl rfl)
theorem dL_law_1441 : decode cL_law 1441 = .ok (.laload, 1) := dk_47 (dk_at dksL_law_54 23 rfl rfl)
theorem dL_law_1442 : decode cL_law 1442 = .ok (.iload 6, 2) := dk_21 6 (dk_at dksL_law_55 0 rfl rfl)
theorem dL_law_1444 : decode cL_law 1444 = .ok (.i2l, 1) := dk_133 (dk_at dksL_law_55 2 rfl rfl)
theorem dL_law_1445 : decode cL_law 1445 = .ok (.lcmp, 1) := dk_148 (dk_at dksL_law_55 3 rfl rfl)
theorem dL_law_1446 : decode cL_law 1446 = .ok (.ifCond .eq 5, 3) := dk_153 0 5 (dk_at dksL_law_55 4 rfl rfl)
theorem dL_law_1449 : decode cL_law 1449 = .ok (.iconst 0, 1) := dk_3 (dk_at dksL_law_55 7 rfl rfl)
theorem dL_law_1450 : decode cL_law 1450 = .ok (.ireturn, 1) := dk_172 (dk_at dksL_law_55 8 rfl rfl)
theorem dL_law_1451 : decode cL_law 1451 = .ok (.goto 867, 3) := dk_167 3 99 (dk_at dksL_law_55 9 rfl rfl)
theorem dL_law_1454 : decode cL_law 1454 = .ok (.aload_n 1, 1) := dk_43 (dk_at dksL_law_55 12 rfl rfl)
theorem dL_law_1455 : decode cL_law 1455 = .ok (.aload_n 0, 1) := dk_42 (dk_at dksL_law_55 13 rfl rfl)
theorem dL_law_1456 : decode cL_law 1456 = .ok (.iload 4, 2) := dk_21 4 (dk_at dksL_law_55 14 rfl rfl)
theorem dL_law_1458 : decode cL_law 1458 = .ok (.iconst 1, 1) := dk_4 (dk_at dksL_law_55 16 rfl rfl)
theorem dL_law_1459 : decode cL_law 1459 = .ok (.iadd, 1) := dk_96 (dk_at dksL_law_55 17 rfl rfl)
theorem dL_law_1460 : decode cL_law 1460 = .ok (.iaload, 1) := dk_46 (dk_at dksL_law_55 18 rfl rfl)
theorem dL_law_1461 : decode cL_law 1461 = .ok (.aload_n 3, 1) := dk_45 (dk_at dksL_law_55 19 rfl rfl)
theorem dL_law_1462 : decode cL_law 1462 = .ok (.invokestatic 221, 3) := dk_184 0 221 (dk_at dksL_law_55 20 rfl rfl)
theorem dL_law_1465 : decode cL_law 1465 = .ok (.istore 5, 2) := dk_54 5 (dk_at dksL_law_56 0 rfl rfl)
theorem dL_law_1467 : decode cL_law 1467 = .ok (.aload_n 2, 1) := dk_44 (dk_at dksL_law_56 2 rfl rfl)
theorem dL_law_1468 : decode cL_law 1468 = .ok (.aload_n 0, 1) := dk_42 (dk_at dksL_law_56 3 rfl rfl)
theorem dL_law_1469 : decode cL_law 1469 = .ok (.iload 4, 2) := dk_21 4 (dk_at dksL_law_56 4 rfl rfl)
theorem dL_law_1471 : decode cL_law 1471 = .ok (.iconst 1, 1) := dk_4 (dk_at dksL_law_56 6 rfl rfl)
theorem dL_law_1472 : decode cL_law 1472 = .ok (.iadd, 1) := dk_96 (dk_at dksL_law_56 7 rfl rfl)
theorem dL_law_1473 : decode cL_law 1473 = .ok (.iaload, 1) := dk_46 (dk_at dksL_law_56 8 rfl rfl)
theorem dL_law_1474 : decode cL_law 1474 = .ok (.invokevirtual 223, 3) := dk_182 0 223 (dk_at dksL_law_56 9 rfl rfl)
theorem dL_law_1477 : decode cL_law 1477 = .ok (.istore 6, 2) := dk_54 6 (dk_at dksL_law_56 12 rfl rfl)
theorem dL_law_1479 : decode cL_law 1479 = .ok (.aload_n 2, 1) := dk_44 (dk_at dksL_law_56 14 rfl rfl)
theorem dL_law_1480 : decode cL_law 1480 = .ok (.invokevirtual 123, 3) := dk_182 0 123 (dk_at dksL_law_56 15 rfl rfl)
theorem dL_law_1483 : decode cL_law 1483 = .ok (.iload 5, 2) := dk_21 5 (dk_at dksL_law_56 18 rfl rfl)
theorem dL_law_1485 : decode cL_law 1485 = .ok (.if_icmp .eq 5, 3) := dk_159 0 5 (dk_at dksL_law_56 20 rfl rfl)
theorem dL_law_1488 : decode cL_law 1488 = .ok (.iconst 0, 1) := dk_3 (dk_at dksL_law_56 23 rfl rfl)
theorem dL_law_1489 : decode cL_law 1489 = .ok (.ireturn, 1) := dk_172 (dk_at dksL_law_57 0 rfl rfl)
theorem dL_law_1490 : decode cL_law 1490 = .ok (.iload 5, 2) := dk_21 5 (dk_at dksL_law_57 1 rfl rfl)
theorem dL_law_1492 : decode cL_law 1492 = .ok (.ifCond .ne 15, 3) := dk_154 0 15 (dk_at dksL_law_57 3 rfl rfl)
theorem dL_law_1495 : decode cL_law 1495 = .ok (.aload_n 3, 1) := dk_45 (dk_at dksL_law_57 6 rfl rfl)
theorem dL_law_1496 : decode cL_law 1496 = .ok (.iconst 0, 1) := dk_3 (dk_at dksL_law_57 7 rfl rfl)
theorem dL_law_1497 : decode cL_law 1497 = .ok (.laload, 1) := dk_47 (dk_at dksL_law_57 8 rfl rfl)
theorem dL_law_1498 : decode cL_law 1498 = .ok (.iload 6, 2) := dk_21 6 (dk_at dksL_law_57 9 rfl rfl)
theorem dL_law_1500 : decode cL_law 1500 = .ok (.i2l, 1) := dk_133 (dk_at dksL_law_57 11 rfl rfl)
theorem dL_law_1501 : decode cL_law 1501 = .ok (.lcmp, 1) := dk_148 (dk_at dksL_law_57 12 rfl rfl)
theorem dL_law_1502 : decode cL_law 1502 = .ok (.ifCond .eq 5, 3) := dk_153 0 5 (dk_at dksL_law_57 13 rfl rfl)
theorem dL_law_1505 : decode cL_law 1505 = .ok (.iconst 0, 1) := dk_3 (dk_at dksL_law_57 16 rfl rfl)
theorem dL_law_1506 : decode cL_law 1506 = .ok (.ireturn, 1) := dk_172 (dk_at dksL_law_57 17 rfl rfl)
theorem dL_law_1507 : decode cL_law 1507 = .ok (.goto 811, 3) := dk_167 3 43 (dk_at dksL_law_57 18 rfl rfl)
theorem dL_law_1510 : decode cL_law 1510 = .ok (.aload_n 1, 1) := dk_43 (dk_at dksL_law_57 21 rfl rfl)
theorem dL_law_1511 : decode cL_law 1511 = .ok (.aload_n 0, 1) := dk_42 (dk_at dksL_law_57 22 rfl rfl)
theorem dL_law_1512 : decode cL_law 1512 = .ok (.iload 4, 2) := dk_21 4 (dk_at dksL_law_58 0 rfl rfl)
theorem dL_law_1514 : decode cL_law 1514 = .ok (.iconst 1, 1) := dk_4 (dk_at dksL_law_58 2 rfl rfl)
theorem dL_law_1515 : decode cL_law 1515 = .ok (.iadd, 1) := dk_96 (dk_at dksL_law_58 3 rfl rfl)
theorem dL_law_1516 : decode cL_law 1516 = .ok (.iaload, 1) := dk_46 (dk_at dksL_law_58 4 rfl rfl)
theorem dL_law_1517 : decode cL_law 1517 = .ok (.aload_n 3, 1) := dk_45 (dk_at dksL_law_58 5 rfl rfl)
theorem dL_law_1518 : decode cL_law 1518 = .ok (.invokestatic 224, 3) := dk_184 0 224 (dk_at dksL_law_58 6 rfl rfl)
theorem dL_law_1521 : decode cL_law 1521 = .ok (.istore 5, 2) := dk_54 5 (dk_at dksL_law_58 9 rfl rfl)
theorem dL_law_1523 : decode cL_law 1523 = .ok (.aload_n 2, 1) := dk_44 (dk_at dksL_law_58 11 rfl rfl)
theorem dL_law_1524 : decode cL_law 1524 = .ok (.aload_n 0, 1) := dk_42 (dk_at dksL_law_58 12 rfl rfl)
theorem dL_law_1525 : decode cL_law 1525 = .ok (.iload 4, 2) := dk_21 4 (dk_at dksL_law_58 13 rfl rfl)
theorem dL_law_1527 : decode cL_law 1527 = .ok (.iconst 1, 1) := dk_4 (dk_at dksL_law_58 15 rfl rfl)
theorem dL_law_1528 : decode cL_law 1528 = .ok (.iadd, 1) := dk_96 (dk_at dksL_law_58 16 rfl rfl)
theorem dL_law_1529 : decode cL_law 1529 = .ok (.iaload, 1) := dk_46 (dk_at dksL_law_58 17 rfl rfl)
theorem dL_law_1530 : decode cL_law 1530 = .ok (.invokevirtual 226, 3) := dk_182 0 226 (dk_at dksL_law_58 18 rfl rfl)
theorem dL_law_1533 : decode cL_law 1533 = .ok (.istore 6, 2) := dk_54 6 (dk_at dksL_law_58 21 rfl rfl)
theorem dL_law_1535 : decode cL_law 1535 = .ok (.aload_n 2, 1) := dk_44 (dk_at dksL_law_58 23 rfl rfl)
theorem dL_law_1536 : decode cL_law 1536 = .ok (.invokevirtual 123, 3) := dk_182 0 123 (dk_at dksL_law_59 0 rfl rfl)
theorem dL_law_1539 : decode cL_law 1539 = .ok (.iload 5, 2) := dk_21 5 (dk_at dksL_law_59 3 rfl rfl)
theorem dL_law_1541 : decode cL_law 1541 = .ok (.if_icmp .eq 5, 3) := dk_159 0 5 (dk_at dksL_law_59 5 rfl rfl)
theorem dL_law_1544 : decode cL_law 1544 = .ok (.iconst 0, 1) := dk_3 (dk_at dksL_law_59 8 rfl rfl)
theorem dL_law_1545 : decode cL_law 1545 = .ok (.ireturn, 1) := dk_172 (dk_at dksL_law_59 9 rfl rfl)
theorem dL_law_1546 : decode cL_law 1546 = .ok (.iload 5, 2) := dk_21 5 (dk_at dksL_law_59 10 rfl rfl)
theorem dL_law_1548 : decode cL_law 1548 = .ok (.ifCond .ne 15, 3) := dk_154 0 15 (dk_at dksL_law_59 12 rfl rfl)
theorem dL_law_1551 : decode cL_law 1551 = .ok (.aload_n 3, 1) := dk_45 (dk_at dksL_law_59 15 rfl rfl)
theorem dL_law_1552 : decode cL_law 1552 = .ok (.iconst 0, 1) := dk_3 (dk_at dksL_law_59 16 rfl rfl)
theorem dL_law_1553 : decode cL_law 1553 = .ok (.laload, 1) := dk_47 (dk_at dksL_law_59 17 rfl rfl)
theorem dL_law_1554 : decode cL_law 1554 = .ok (.iload 6, 2) := dk_21 6 (dk_at dksL_law_59 18 rfl rfl)
theorem dL_law_1556 : decode cL_law 1556 = .ok (.i2l, 1) := dk_133 (dk_at dksL_law_59 20 rfl rfl)
theorem dL_law_1557 : decode cL_law 1557 = .ok (.lcmp, 1) := dk_148 (dk_at dksL_law_59 21 rfl rfl)
theorem dL_law_1558 : decode cL_law 1558 = .ok (.ifCond .eq 5, 3) := dk_153 0 5 (dk_at dksL_law_60 0 rfl rfl)
theorem dL_law_1561 : decode cL_law 1561 = .ok (.iconst 0, 1) := dk_3 (dk_at dksL_law_60 3 rfl rfl)
theorem dL_law_1562 : decode cL_law 1562 = .ok (.ireturn, 1) := dk_172 (dk_at dksL_law_60 4 rfl rfl)
theorem dL_law_1563 : decode cL_law 1563 = .ok (.goto 755, 3) := dk_167 2 243 (dk_at dksL_law_60 5 rfl rfl)
theorem dL_law_1566 : decode cL_law 1566 = .ok (.aload_n 1, 1) := dk_43 (dk_at dksL_law_60 8 rfl rfl)
theorem dL_law_1567 : decode cL_law 1567 = .ok (.aload_n 0, 1) := dk_42 (dk_at dksL_law_60 9 rfl rfl)
theorem dL_law_1568 : decode cL_law 1568 = .ok (.iload 4, 2) := dk_21 4 (dk_at dksL_law_60 10 rfl rfl)
theorem dL_law_1570 : decode cL_law 1570 = .ok (.iconst 1, 1) := dk_4 (dk_at dksL_law_60 12 rfl rfl)
theorem dL_law_1571 : decode cL_law 1571 = .ok (.iadd, 1) := dk_96 (dk_at dksL_law_60 13 rfl rfl)
theorem dL_law_1572 : decode cL_law 1572 = .ok (.iaload, 1) := dk_46 (dk_at dksL_law_60 14 rfl rfl)
theorem dL_law_1573 : decode cL_law 1573 = .ok (.aload_n 3, 1) := dk_45 (dk_at dksL_law_60 15 rfl rfl)
theorem dL_law_1574 : decode cL_law 1574 = .ok (.invokestatic 227, 3) := dk_184 0 227 (dk_at dksL_law_60 16 rfl rfl)
theorem dL_law_1577 : decode cL_law 1577 = .ok (.istore 5, 2) := dk_54 5 (dk_at dksL_law_60 19 rfl rfl)
theorem dL_law_1579 : decode cL_law 1579 = .ok (.aload_n 2, 1) := dk_44 (dk_at dksL_law_60 21 rfl rfl)
theorem dL_law_1580 : decode cL_law 1580 = .ok (.aload_n 0, 1) := dk_42 (dk_at dksL_law_60 22 rfl rfl)
theorem dL_law_1581 : decode cL_law 1581 = .ok (.iload 4, 2) := dk_21 4 (dk_at dksL_law_61 0 rfl rfl)
theorem dL_law_1583 : decode cL_law 1583 = .ok (.iconst 1, 1) := dk_4 (dk_at dksL_law_61 2 rfl rfl)
theorem dL_law_1584 : decode cL_law 1584 = .ok (.iadd, 1) := dk_96 (dk_at dksL_law_61 3 rfl rfl)
theorem dL_law_1585 : decode cL_law 1585 = .ok (.iaload, 1) := dk_46 (dk_at dksL_law_61 4 rfl rfl)
theorem dL_law_1586 : decode cL_law 1586 = .ok (.invokevirtual 229, 3) := dk_182 0 229 (dk_at dksL_law_61 5 rfl rfl)
theorem dL_law_1589 : decode cL_law 1589 = .ok (.istore 6, 2) := dk_54 6 (dk_at dksL_law_61 8 rfl rfl)
theorem dL_law_1591 : decode cL_law 1591 = .ok (.aload_n 2, 1) := dk_44 (dk_at dksL_law_61 10 rfl rfl)
theorem dL_law_1592 : decode cL_law 1592 = .ok (.invokevirtual 123, 3) := dk_182 0 123 (dk_at dksL_law_61 11 rfl rfl)
theorem dL_law_1595 : decode cL_law 1595 = .ok (.iload 5, 2) := dk_21 5 (dk_at dksL_law_61 14 rfl rfl)
theorem dL_law_1597 : decode cL_law 1597 = .ok (.if_icmp .eq 5, 3) := dk_159 0 5 (dk_at dksL_law_61 16 rfl rfl)
theorem dL_law_1600 : decode cL_law 1600 = .ok (.iconst 0, 1) := dk_3 (dk_at dksL_law_61 19 rfl rfl)
theorem dL_law_1601 : decode cL_law 1601 = .ok (.ireturn, 1) := dk_172 (dk_at dksL_law_61 20 rfl rfl)
theorem dL_law_1602 : decode cL_law 1602 = .ok (.iload 5, 2) := dk_21 5 (dk_at dksL_law_61 21 rfl rfl)
theorem dL_law_1604 : decode cL_law 1604 = .ok (.ifCond .ne 15, 3) := dk_154 0 15 (dk_at dksL_law_62 0 rfl rfl)
theorem dL_law_1607 : decode cL_law 1607 = .ok (.aload_n 3, 1) := dk_45 (dk_at dksL_law_62 3 rfl rfl)
theorem dL_law_1608 : decode cL_law 1608 = .ok (.iconst 0, 1) := dk_3 (dk_at dksL_law_62 4 rfl rfl)
theorem dL_law_1609 : decode cL_law 1609 = .ok (.laload, 1) := dk_47 (dk_at dksL_law_62 5 rfl rfl)
theorem dL_law_1610 : decode cL_law 1610 = .ok (.iload 6, 2) := dk_21 6 (dk_at dksL_law_62 6 rfl rfl)
theorem dL_law_1612 : decode cL_law 1612 = .ok (.i2l, 1) := dk_133 (dk_at dksL_law_62 8 rfl rfl)
theorem dL_law_1613 : decode cL_law 1613 = .ok (.lcmp, 1) := dk_148 (dk_at dksL_law_62 9 rfl rfl)
theorem dL_law_1614 : decode cL_law 1614 = .ok (.ifCond .eq 5, 3) := dk_153 0 5 (dk_at dksL_law_62 10 rfl rfl)
theorem dL_law_1617 : decode cL_law 1617 = .ok (.iconst 0, 1) := dk_3 (dk_at dksL_law_62 13 rfl rfl)
theorem dL_law_1618 : decode cL_law 1618 = .ok (.ireturn, 1) := dk_172 (dk_at dksL_law_62 14 rfl rfl)
theorem dL_law_1619 : decode cL_law 1619 = .ok (.goto 699, 3) := dk_167 2 187 (dk_at dksL_law_62 15 rfl rfl)
theorem dL_law_1622 : decode cL_law 1622 = .ok (.aload_n 1, 1) := dk_43 (dk_at dksL_law_62 18 rfl rfl)
theorem dL_law_1623 : decode cL_law 1623 = .ok (.aload_n 0, 1) := dk_42 (dk_at dksL_law_62 19 rfl rfl)
theorem dL_law_1624 : decode cL_law 1624 = .ok (.iload 4, 2) := dk_21 4 (dk_at dksL_law_62 20 rfl rfl)
theorem dL_law_1626 : decode cL_law 1626 = .ok (.iconst 1, 1) := dk_4 (dk_at dksL_law_62 22 rfl rfl)
theorem dL_law_1627 : decode cL_law 1627 = .ok (.iadd, 1) := dk_96 (dk_at dksL_law_62 23 rfl rfl)
theorem dL_law_1628 : decode cL_law 1628 = .ok (.iaload, 1) := dk_46 (dk_at dksL_law_63 0 rfl rfl)
theorem dL_law_1629 : decode cL_law 1629 = .ok (.aload_n 3, 1) := dk_45 (dk_at dksL_law_63 1 rfl rfl)
theorem dL_law_1630 : decode cL_law 1630 = .ok (.invokestatic 230, 3) := dk_184 0 230 (dk_at dksL_law_63 2 rfl rfl)
theorem dL_law_1633 : decode cL_law 1633 = .ok (.istore 5, 2) := dk_54 5 (dk_at dksL_law_63 5 rfl rfl)
theorem dL_law_1635 : decode cL_law 1635 = .ok (.aload_n 2, 1) := dk_44 (dk_at dksL_law_63 7 rfl rfl)
theorem dL_law_1636 : decode cL_law 1636 = .ok (.aload_n 0, 1) := dk_42 (dk_at dksL_law_63 8 rfl rfl)
theorem dL_law_1637 : decode cL_law 1637 = .ok (.iload 4, 2) := dk_21 4 (dk_at dksL_law_63 9 rfl rfl)
theorem dL_law_1639 : decode cL_law 1639 = .ok (.iconst 1, 1) := dk_4 (dk_at dksL_law_63 11 rfl rfl)
theorem dL_law_1640 : decode cL_law 1640 = .ok (.iadd, 1) := dk_96 (dk_at dksL_law_63 12 rfl rfl)
theorem dL_law_1641 : decode cL_law 1641 = .ok (.iaload, 1) := dk_46 (dk_at dksL_law_63 13 rfl rfl)
theorem dL_law_1642 : decode cL_law 1642 = .ok (.invokevirtual 232, 3) := dk_182 0 232 (dk_at dksL_law_63 14 rfl rfl)
theorem dL_law_1645 : decode cL_law 1645 = .ok (.istore 6, 2) := dk_54 6 (dk_at dksL_law_63 17 rfl rfl)
theorem dL_law_1647 : decode cL_law 1647 = .ok (.aload_n 2, 1) := dk_44 (dk_at dksL_law_63 19 rfl rfl)
theorem dL_law_1648 : decode cL_law 1648 = .ok (.invokevirtual 123, 3) := dk_182 0 123 (dk_at dksL_law_63 20 rfl rfl)
theorem dL_law_1651 : decode cL_law 1651 = .ok (.iload 5, 2) := dk_21 5 (dk_at dksL_law_64 0 rfl rfl)
theorem dL_law_1653 : decode cL_law 1653 = .ok (.if_icmp .eq 5, 3) := dk_159 0 5 (dk_at dksL_law_64 2 rfl rfl)
theorem dL_law_1656 : decode cL_law 1656 = .ok (.iconst 0, 1) := dk_3 (dk_at dksL_law_64 5 rfl rfl)
theorem dL_law_1657 : decode cL_law 1657 = .ok (.ireturn, 1) := dk_172 (dk_at dksL_law_64 6 rfl rfl)
theorem dL_law_1658 : decode cL_law 1658 = .ok (.iload 5, 2) := dk_21 5 (dk_at dksL_law_64 7 rfl rfl)
theorem dL_law_1660 : decode cL_law 1660 = .ok (.ifCond .ne 15, 3) := dk_154 0 15 (dk_at dksL_law_64 9 rfl rfl)
theorem dL_law_1663 : decode cL_law 1663 = .ok (.aload_n 3, 1) := dk_45 (dk_at dksL_law_64 12 rfl rfl)
theorem dL_law_1664 : decode cL_law 1664 = .ok (.iconst 0, 1) := dk_3 (dk_at dksL_law_64 13 rfl rfl)
theorem dL_law_1665 : decode cL_law 1665 = .ok (.laload, 1) := dk_47 (dk_at dksL_law_64 14 rfl rfl)
theorem dL_law_1666 : decode cL_law 1666 = .ok (.iload 6, 2) := dk_21 6 (dk_at dksL_law_64 15 rfl rfl)
theorem dL_law_1668 : decode cL_law 1668 = .ok (.i2l, 1) := dk_133 (dk_at dksL_law_64 17 rfl rfl)
theorem dL_law_1669 : decode cL_law 1669 = .ok (.lcmp, 1) := dk_148 (dk_at dksL_law_64 18 rfl rfl)
theorem dL_law_1670 : decode cL_law 1670 = .ok (.ifCond .eq 5, 3) := dk_153 0 5 (dk_at dksL_law_64 19 rfl rfl)
theorem dL_law_1673 : decode cL_law 1673 = .ok (.iconst 0, 1) := dk_3 (dk_at dksL_law_64 22 rfl rfl)
theorem dL_law_1674 : decode cL_law 1674 = .ok (.ireturn, 1) := dk_172 (dk_at dksL_law_64 23 rfl rfl)
theorem dL_law_1675 : decode cL_law 1675 = .ok (.goto 643, 3) := dk_167 2 131 (dk_at dksL_law_65 0 rfl rfl)
theorem dL_law_1678 : decode cL_law 1678 = .ok (.aload_n 1, 1) := dk_43 (dk_at dksL_law_65 3 rfl rfl)
theorem dL_law_1679 : decode cL_law 1679 = .ok (.aload_n 0, 1) := dk_42 (dk_at dksL_law_65 4 rfl rfl)
theorem dL_law_1680 : decode cL_law 1680 = .ok (.iload 4, 2) := dk_21 4 (dk_at dksL_law_65 5 rfl rfl)
theorem dL_law_1682 : decode cL_law 1682 = .ok (.iconst 1, 1) := dk_4 (dk_at dksL_law_65 7 rfl rfl)
theorem dL_law_1683 : decode cL_law 1683 = .ok (.iadd, 1) := dk_96 (dk_at dksL_law_65 8 rfl rfl)
theorem dL_law_1684 : decode cL_law 1684 = .ok (.iaload, 1) := dk_46 (dk_at dksL_law_65 9 rfl rfl)
theorem dL_law_1685 : decode cL_law 1685 = .ok (.aload_n 3, 1) := dk_45 (dk_at dksL_law_65 10 rfl rfl)
theorem dL_law_1686 : decode cL_law 1686 = .ok (.invokestatic 233, 3) := dk_184 0 233 (dk_at dksL_law_65 11 rfl rfl)
theorem dL_law_1689 : decode cL_law 1689 = .ok (.istore 5, 2) := dk_54 5 (dk_at dksL_law_65 14 rfl rfl)
theorem dL_law_1691 : decode cL_law 1691 = .ok (.aload_n 2, 1) := dk_44 (dk_at dksL_law_65 16 rfl rfl)
theorem dL_law_1692 : decode cL_law 1692 = .ok (.aload_n 0, 1) := dk_42 (dk_at dksL_law_65 17 rfl rfl)
theorem dL_law_1693 : decode cL_law 1693 = .ok (.iload 4, 2) := dk_21 4 (dk_at dksL_law_65 18 rfl rfl)
theorem dL_law_1695 : decode cL_law 1695 = .ok (.iconst 1, 1) := dk_4 (dk_at dksL_law_65 20 rfl rfl)
theorem dL_law_1696 : decode cL_law 1696 = .ok (.iadd, 1) := dk_96 (dk_at dksL_law_65 21 rfl rfl)
theorem dL_law_1697 : decode cL_law 1697 = .ok (.iaload, 1) := dk_46 (dk_at dksL_law_65 22 rfl rfl)
theorem dL_law_1698 : decode cL_law 1698 = .ok (.invokevirtual 235, 3) := dk_182 0 235 (dk_at dksL_law_66 0 rfl rfl)
theorem dL_law_1701 : decode cL_law 1701 = .ok (.istore 6, 2) := dk_54 6 (dk_at dksL_law_66 3 rfl rfl)
theorem dL_law_1703 : decode cL_law 1703 = .ok (.aload_n 2, 1) := dk_44 (dk_at dksL_law_66 5 rfl rfl)
theorem dL_law_1704 : decode cL_law 1704 = .ok (.invokevirtual 123, 3) := dk_182 0 123 (dk_at dksL_law_66 6 rfl rfl)
theorem dL_law_1707 : decode cL_law 1707 = .ok (.iload 5, 2) := dk_21 5 (dk_at dksL_law_66 9 rfl rfl)
theorem dL_law_1709 : decode cL_law 1709 = .ok (.if_icmp .eq 5, 3) := dk_159 0 5 (dk_at dksL_law_66 11 rfl rfl)
theorem dL_law_1712 : decode cL_law 1712 = .ok (.iconst 0, 1) := dk_3 (dk_at dksL_law_66 14 rfl rfl)
theorem dL_law_1713 : decode cL_law 1713 = .ok (.ireturn, 1) := dk_172 (dk_at dksL_law_66 15 rfl rfl)
theorem dL_law_1714 : decode cL_law 1714 = .ok (.iload 5, 2) := dk_21 5 (dk_at dksL_law_66 16 rfl rfl)
theorem dL_law_1716 : decode cL_law 1716 = .ok (.ifCond .ne 15, 3) := dk_154 0 15 (dk_at dksL_law_66 18 rfl rfl)
theorem dL_law_1719 : decode cL_law 1719 = .ok (.aload_n 3, 1) := dk_45 (dk_at dksL_law_66 21 rfl rfl)
theorem dL_law_1720 : decode cL_law 1720 = .ok (.iconst 0, 1) := dk_3 (dk_at dksL_law_66 22 rfl rfl)
theorem dL_law_1721 : decode cL_law 1721 = .ok (.laload, 1) := dk_47 (dk_at dksL_law_66 23 rfl rfl)
theorem dL_law_1722 : decode cL_law 1722 = .ok (.iload 6, 2) := dk_21 6 (dk_at dksL_law_67 0 rfl rfl)
theorem dL_law_1724 : decode cL_law 1724 = .ok (.i2l, 1) := dk_133 (dk_at dksL_law_67 2 rfl rfl)
theorem dL_law_1725 : decode cL_law 1725 = .ok (.lcmp, 1) := dk_148 (dk_at dksL_law_67 3 rfl rfl)
theorem dL_law_1726 : decode cL_law 1726 = .ok (.ifCond .eq 5, 3) := dk_153 0 5 (dk_at dksL_law_67 4 rfl rfl)
theorem dL_law_1729 : decode cL_law 1729 = .ok (.iconst 0, 1) := dk_3 (dk_at dksL_law_67 7 rfl rfl)
theorem dL_law_1730 : decode cL_law 1730 = .ok (.ireturn, 1) := dk_172 (dk_at dksL_law_67 8 rfl rfl)
theorem dL_law_1731 : decode cL_law 1731 = .ok (.goto 587, 3) := dk_167 2 75 (dk_at dksL_law_67 9 rfl rfl)
theorem dL_law_1734 : decode cL_law 1734 = .ok (.aload_n 1, 1) := dk_43 (dk_at dksL_law_67 12 rfl rfl)
theorem dL_law_1735 : decode cL_law 1735 = .ok (.aload_n 0, 1) := dk_42 (dk_at dksL_law_67 13 rfl rfl)
theorem dL_law_1736 : decode cL_law 1736 = .ok (.iload 4, 2) := dk_21 4 (dk_at dksL_law_67 14 rfl rfl)
theorem dL_law_1738 : decode cL_law 1738 = .ok (.iconst 1, 1) := dk_4 (dk_at dksL_law_67 16 rfl rfl)
theorem dL_law_1739 : decode cL_law 1739 = .ok (.iadd, 1) := dk_96 (dk_at dksL_law_67 17 rfl rfl)
theorem dL_law_1740 : decode cL_law 1740 = .ok (.iaload, 1) := dk_46 (dk_at dksL_law_67 18 rfl rfl)
theorem dL_law_1741 : decode cL_law 1741 = .ok (.aload_n 3, 1) := dk_45 (dk_at dksL_law_67 19 rfl rfl)
theorem dL_law_1742 : decode cL_law 1742 = .ok (.invokestatic 236, 3) := dk_184 0 236 (dk_at dksL_law_67 20 rfl rfl)
theorem dL_law_1745 : decode cL_law 1745 = .ok (.istore 5, 2) := dk_54 5 (dk_at dksL_law_68 0 rfl rfl)
theorem dL_law_1747 : decode cL_law 1747 = .ok (.aload_n 2, 1) := dk_44 (dk_at dksL_law_68 2 rfl rfl)
theorem dL_law_1748 : decode cL_law 1748 = .ok (.aload_n 0, 1) := dk_42 (dk_at dksL_law_68 3 rfl rfl)
theorem dL_law_1749 : decode cL_law 1749 = .ok (.iload 4, 2) := dk_21 4 (dk_at dksL_law_68 4 rfl rfl)
theorem dL_law_1751 : decode cL_law 1751 = .ok (.iconst 1, 1) := dk_4 (dk_at dksL_law_68 6 rfl rfl)
theorem dL_law_1752 : decode cL_law 1752 = .ok (.iadd, 1) := dk_96 (dk_at dksL_law_68 7 rfl rfl)
theorem dL_law_1753 : decode cL_law 1753 = .ok (.iaload, 1) := dk_46 (dk_at dksL_law_68 8 rfl rfl)
theorem dL_law_1754 : decode cL_law 1754 = .ok (.invokevirtual 238, 3) := dk_182 0 238 (dk_at dksL_law_68 9 rfl rfl)
theorem dL_law_1757 : decode cL_law 1757 = .ok (.istore 6, 2) := dk_54 6 (dk_at dksL_law_68 12 rfl rfl)
theorem dL_law_1759 : decode cL_law 1759 = .ok (.aload_n 2, 1) := dk_44 (dk_at dksL_law_68 14 rfl rfl)
theorem dL_law_1760 : decode cL_law 1760 = .ok (.invokevirtual 123, 3) := dk_182 0 123 (dk_at dksL_law_68 15 rfl rfl)
theorem dL_law_1763 : decode cL_law 1763 = .ok (.iload 5, 2) := dk_21 5 (dk_at dksL_law_68 18 rfl rfl)
theorem dL_law_1765 : decode cL_law 1765 = .ok (.if_icmp .eq 5, 3) := dk_159 0 5 (dk_at dksL_law_68 20 rfl rfl)
theorem dL_law_1768 : decode cL_law 1768 = .ok (.iconst 0, 1) := dk_3 (dk_at dksL_law_68 23 rfl rfl)
theorem dL_law_1769 : decode cL_law 1769 = .ok (.ireturn, 1) := dk_172 (dk_at dksL_law_69 0 rfl rfl)
theorem dL_law_1770 : decode cL_law 1770 = .ok (.iload 5, 2) := dk_21 5 (dk_at dksL_law_69 1 rfl rfl)
theorem dL_law_1772 : decode cL_law 1772 = .ok (.ifCond .ne 15, 3) := dk_154 0 15 (dk_at dksL_law_69 3 rfl rfl)
theorem dL_law_1775 : decode cL_law 1775 = .ok (.aload_n 3, 1) := dk_45 (dk_at dksL_law_69 6 rfl rfl)
theorem dL_law_1776 : decode cL_law 1776 = .ok (.iconst 0, 1) := dk_3 (dk_at dksL_law_69 7 rfl rfl)
theorem dL_law_1777 : decode cL_law 1777 = .ok (.laload, 1) := dk_47 (dk_at dksL_law_69 8 rfl rfl)
theorem dL_law_1778 : decode cL_law 1778 = .ok (.iload 6, 2) := dk_21 6 (dk_at dksL_law_69 9 rfl rfl)
theorem dL_law_1780 : decode cL_law 1780 = .ok (.i2l, 1) := dk_133 (dk_at dksL_law_69 11 rfl rfl)
theorem dL_law_1781 : decode cL_law 1781 = .ok (.lcmp, 1) := dk_148 (dk_at dksL_law_69 12 rfl rfl)
theorem dL_law_1782 : decode cL_law 1782 = .ok (.ifCond .eq 5, 3) := dk_153 0 5 (dk_at dksL_law_69 13 rfl rfl)
theorem dL_law_1785 : decode cL_law 1785 = .ok (.iconst 0, 1) := dk_3 (dk_at dksL_law_69 16 rfl rfl)
theorem dL_law_1786 : decode cL_law 1786 = .ok (.ireturn, 1) := dk_172 (dk_at dksL_law_69 17 rfl rfl)
theorem dL_law_1787 : decode cL_law 1787 = .ok (.goto 531, 3) := dk_167 2 19 (dk_at dksL_law_69 18 rfl rfl)
theorem dL_law_1790 : decode cL_law 1790 = .ok (.aload_n 1, 1) := dk_43 (dk_at dksL_law_69 21 rfl rfl)
theorem dL_law_1791 : decode cL_law 1791 = .ok (.aload_n 0, 1) := dk_42 (dk_at dksL_law_69 22 rfl rfl)
theorem dL_law_1792 : decode cL_law 1792 = .ok (.iload 4, 2) := dk_21 4 (dk_at dksL_law_70 0 rfl rfl)
theorem dL_law_1794 : decode cL_law 1794 = .ok (.iconst 1, 1) := dk_4 (dk_at dksL_law_70 2 rfl rfl)
theorem dL_law_1795 : decode cL_law 1795 = .ok (.iadd, 1) := dk_96 (dk_at dksL_law_70 3 rfl rfl)
theorem dL_law_1796 : decode cL_law 1796 = .ok (.iaload, 1) := dk_46 (dk_at dksL_law_70 4 rfl rfl)
theorem dL_law_1797 : decode cL_law 1797 = .ok (.aload_n 3, 1) := dk_45 (dk_at dksL_law_70 5 rfl rfl)
theorem dL_law_1798 : decode cL_law 1798 = .ok (.invokestatic 239, 3) := dk_184 0 239 (dk_at dksL_law_70 6 rfl rfl)
theorem dL_law_1801 : decode cL_law 1801 = .ok (.istore 5, 2) := dk_54 5 (dk_at dksL_law_70 9 rfl rfl)
theorem dL_law_1803 : decode cL_law 1803 = .ok (.aload_n 2, 1) := dk_44 (dk_at dksL_law_70 11 rfl rfl)
theorem dL_law_1804 : decode cL_law 1804 = .ok (.aload_n 0, 1) := dk_42 (dk_at dksL_law_70 12 rfl rfl)
theorem dL_law_1805 : decode cL_law 1805 = .ok (.iload 4, 2) := dk_21 4 (dk_at dksL_law_70 13 rfl rfl)
theorem dL_law_1807 : decode cL_law 1807 = .ok (.iconst 1, 1) := dk_4 (dk_at dksL_law_70 15 rfl rfl)
theorem dL_law_1808 : decode cL_law 1808 = .ok (.iadd, 1) := dk_96 (dk_at dksL_law_70 16 rfl rfl)
theorem dL_law_1809 : decode cL_law 1809 = .ok (.iaload, 1) := dk_46 (dk_at dksL_law_70 17 rfl rfl)
theorem dL_law_1810 : decode cL_law 1810 = .ok (.invokevirtual 241, 3) := dk_182 0 241 (dk_at dksL_law_70 18 rfl rfl)
theorem dL_law_1813 : decode cL_law 1813 = .ok (.istore 6, 2) := dk_54 6 (dk_at dksL_law_70 21 rfl rfl)
theorem dL_law_1815 : decode cL_law 1815 = .ok (.aload_n 2, 1) := dk_44 (dk_at dksL_law_70 23 rfl rfl)
theorem dL_law_1816 : decode cL_law 1816 = .ok (.invokevirtual 123, 3) := dk_182 0 123 (dk_at dksL_law_71 0 rfl rfl)
theorem dL_law_1819 : decode cL_law 1819 = .ok (.iload 5, 2) := dk_21 5 (dk_at dksL_law_71 3 rfl rfl)
theorem dL_law_1821 : decode cL_law 1821 = .ok (.if_icmp .eq 5, 3) := dk_159 0 5 (dk_at dksL_law_71 5 rfl rfl)
theorem dL_law_1824 : decode cL_law 1824 = .ok (.iconst 0, 1) := dk_3 (dk_at dksL_law_71 8 rfl rfl)
theorem dL_law_1825 : decode cL_law 1825 = .ok (.ireturn, 1) := dk_172 (dk_at dksL_law_71 9 rfl rfl)
theorem dL_law_1826 : decode cL_law 1826 = .ok (.iload 5, 2) := dk_21 5 (dk_at dksL_law_71 10 rfl rfl)
theorem dL_law_1828 : decode cL_law 1828 = .ok (.ifCond .ne 15, 3) := dk_154 0 15 (dk_at dksL_law_71 12 rfl rfl)
theorem dL_law_1831 : decode cL_law 1831 = .ok (.aload_n 3, 1) := dk_45 (dk_at dksL_law_71 15 rfl rfl)
theorem dL_law_1832 : decode cL_law 1832 = .ok (.iconst 0, 1) := dk_3 (dk_at dksL_law_71 16 rfl rfl)
theorem dL_law_1833 : decode cL_law 1833 = .ok (.laload, 1) := dk_47 (dk_at dksL_law_71 17 rfl rfl)
theorem dL_law_1834 : decode cL_law 1834 = .ok (.iload 6, 2) := dk_21 6 (dk_at dksL_law_71 18 rfl rfl)
theorem dL_law_1836 : decode cL_law 1836 = .ok (.i2l, 1) := dk_133 (dk_at dksL_law_71 20 rfl rfl)
theorem dL_law_1837 : decode cL_law 1837 = .ok (.lcmp, 1) := dk_148 (dk_at dksL_law_71 21 rfl rfl)
theorem dL_law_1838 : decode cL_law 1838 = .ok (.ifCond .eq 5, 3) := dk_153 0 5 (dk_at dksL_law_72 0 rfl rfl)
theorem dL_law_1841 : decode cL_law 1841 = .ok (.iconst 0, 1) := dk_3 (dk_at dksL_law_72 3 rfl rfl)
theorem dL_law_1842 : decode cL_law 1842 = .ok (.ireturn, 1) := dk_172 (dk_at dksL_law_72 4 rfl rfl)
theorem dL_law_1843 : decode cL_law 1843 = .ok (.goto 475, 3) := dk_167 1 219 (dk_at dksL_law_72 5 rfl rfl)
theorem dL_law_1846 : decode cL_law 1846 = .ok (.aload_n 1, 1) := dk_43 (dk_at dksL_law_72 8 rfl rfl)
theorem dL_law_1847 : decode cL_law 1847 = .ok (.aload_n 0, 1) := dk_42 (dk_at dksL_law_72 9 rfl rfl)
theorem dL_law_1848 : decode cL_law 1848 = .ok (.iload 4, 2) := dk_21 4 (dk_at dksL_law_72 10 rfl rfl)
theorem dL_law_1850 : decode cL_law 1850 = .ok (.iconst 1, 1) := dk_4 (dk_at dksL_law_72 12 rfl rfl)
theorem dL_law_1851 : decode cL_law 1851 = .ok (.iadd, 1) := dk_96 (dk_at dksL_law_72 13 rfl rfl)
theorem dL_law_1852 : decode cL_law 1852 = .ok (.iaload, 1) := dk_46 (dk_at dksL_law_72 14 rfl rfl)
theorem dL_law_1853 : decode cL_law 1853 = .ok (.aload_n 0, 1) := dk_42 (dk_at dksL_law_72 15 rfl rfl)
theorem dL_law_1854 : decode cL_law 1854 = .ok (.iload 4, 2) := dk_21 4 (dk_at dksL_law_72 16 rfl rfl)
theorem dL_law_1856 : decode cL_law 1856 = .ok (.iconst 2, 1) := dk_5 (dk_at dksL_law_72 18 rfl rfl)
theorem dL_law_1857 : decode cL_law 1857 = .ok (.iadd, 1) := dk_96 (dk_at dksL_law_72 19 rfl rfl)
theorem dL_law_1858 : decode cL_law 1858 = .ok (.iaload, 1) := dk_46 (dk_at dksL_law_72 20 rfl rfl)
theorem dL_law_1859 : decode cL_law 1859 = .ok (.aload_n 0, 1) := dk_42 (dk_at dksL_law_72 21 rfl rfl)
theorem dL_law_1860 : decode cL_law 1860 = .ok (.iload 4, 2) := dk_21 4 (dk_at dksL_law_72 22 rfl rfl)
theorem dL_law_1862 : decode cL_law 1862 = .ok (.iconst 3, 1) := dk_6 (dk_at dksL_law_73 0 rfl rfl)
theorem dL_law_1863 : decode cL_law 1863 = .ok (.iadd, 1) := dk_96 (dk_at dksL_law_73 1 rfl rfl)
theorem dL_law_1864 : decode cL_law 1864 = .ok (.iaload, 1) := dk_46 (dk_at dksL_law_73 2 rfl rfl)
theorem dL_law_1865 : decode cL_law 1865 = .ok (.aload_n 3, 1) := dk_45 (dk_at dksL_law_73 3 rfl rfl)
theorem dL_law_1866 : decode cL_law 1866 = .ok (.invokestatic 242, 3) := dk_184 0 242 (dk_at dksL_law_73 4 rfl rfl)
theorem dL_law_1869 : decode cL_law 1869 = .ok (.istore 5, 2) := dk_54 5 (dk_at dksL_law_73 7 rfl rfl)
theorem dL_law_1871 : decode cL_law 1871 = .ok (.aload_n 2, 1) := dk_44 (dk_at dksL_law_73 9 rfl rfl)
theorem dL_law_1872 : decode cL_law 1872 = .ok (.aload_n 0, 1) := dk_42 (dk_at dksL_law_73 10 rfl rfl)
theorem dL_law_1873 : decode cL_law 1873 = .ok (.iload 4, 2) := dk_21 4 (dk_at dksL_law_73 11 rfl rfl)
theorem dL_law_1875 : decode cL_law 1875 = .ok (.iconst 1, 1) := dk_4 (dk_at dksL_law_73 13 rfl rfl)
theorem dL_law_1876 : decode cL_law 1876 = .ok (.iadd, 1) := dk_96 (dk_at dksL_law_73 14 rfl rfl)
theorem dL_law_1877 : decode cL_law 1877 = .ok (.iaload, 1) := dk_46 (dk_at dksL_law_73 15 rfl rfl)
theorem dL_law_1878 : decode cL_law 1878 = .ok (.aload_n 0, 1) := dk_42 (dk_at dksL_law_73 16 rfl rfl)
theorem dL_law_1879 : decode cL_law 1879 = .ok (.iload 4, 2) := dk_21 4 (dk_at dksL_law_73 17 rfl rfl)
theorem dL_law_1881 : decode cL_law 1881 = .ok (.iconst 2, 1) := dk_5 (dk_at dksL_law_73 19 rfl rfl)
theorem dL_law_1882 : decode cL_law 1882 = .ok (.iadd, 1) := dk_96 (dk_at dksL_law_73 20 rfl rfl)
theorem dL_law_1883 : decode cL_law 1883 = .ok (.iaload, 1) := dk_46 (dk_at dksL_law_73 21 rfl rfl)
theorem dL_law_1884 : decode cL_law 1884 = .ok (.aload_n 0, 1) := dk_42 (dk_at dksL_law_73 22 rfl rfl)
theorem dL_law_1885 : decode cL_law 1885 = .ok (.iload 4, 2) := dk_21 4 (dk_at dksL_law_74 0 rfl rfl)
theorem dL_law_1887 : decode cL_law 1887 = .ok (.iconst 3, 1) := dk_6 (dk_at dksL_law_74 2 rfl rfl)
theorem dL_law_1888 : decode cL_law 1888 = .ok (.iadd, 1) := dk_96 (dk_at dksL_law_74 3 rfl rfl)
theorem dL_law_1889 : decode cL_law 1889 = .ok (.iaload, 1) := dk_46 (dk_at dksL_law_74 4 rfl rfl)
theorem dL_law_1890 : decode cL_law 1890 = .ok (.invokevirtual 244, 3) := dk_182 0 244 (dk_at dksL_law_74 5 rfl rfl)
theorem dL_law_1893 : decode cL_law 1893 = .ok (.istore 6, 2) := dk_54 6 (dk_at dksL_law_74 8 rfl rfl)
theorem dL_law_1895 : decode cL_law 1895 = .ok (.aload_n 2, 1) := dk_44 (dk_at dksL_law_74 10 rfl rfl)
theorem dL_law_1896 : decode cL_law 1896 = .ok (.invokevirtual 123, 3) := dk_182 0 123 (dk_at dksL_law_74 11 rfl rfl)
theorem dL_law_1899 : decode cL_law 1899 = .ok (.iload 5, 2) := dk_21 5 (dk_at dksL_law_74 14 rfl rfl)
theorem dL_law_1901 : decode cL_law 1901 = .ok (.if_icmp .eq 5, 3) := dk_159 0 5 (dk_at dksL_law_74 16 rfl rfl)
theorem dL_law_1904 : decode cL_law 1904 = .ok (.iconst 0, 1) := dk_3 (dk_at dksL_law_74 19 rfl rfl)
theorem dL_law_1905 : decode cL_law 1905 = .ok (.ireturn, 1) := dk_172 (dk_at dksL_law_74 20 rfl rfl)
theorem dL_law_1906 : decode cL_law 1906 = .ok (.iload 5, 2) := dk_21 5 (dk_at dksL_law_74 21 rfl rfl)
theorem dL_law_1908 : decode cL_law 1908 = .ok (.ifCond .ne 22, 3) := dk_154 0 22 (dk_at dksL_law_75 0 rfl rfl)
theorem dL_law_1911 : decode cL_law 1911 = .ok (.aload_n 3, 1) := dk_45 (dk_at dksL_law_75 3 rfl rfl)
theorem dL_law_1912 : decode cL_law 1912 = .ok (.iconst 0, 1) := dk_3 (dk_at dksL_law_75 4 rfl rfl)
theorem dL_law_1913 : decode cL_law 1913 = .ok (.laload, 1) := dk_47 (dk_at dksL_law_75 5 rfl rfl)
theorem dL_law_1914 : decode cL_law 1914 = .ok (.iload 6, 2) := dk_21 6 (dk_at dksL_law_75 6 rfl rfl)
theorem dL_law_1916 : decode cL_law 1916 = .ok (.ifCond .eq 7, 3) := dk_153 0 7 (dk_at dksL_law_75 8 rfl rfl)
theorem dL_law_1919 : decode cL_law 1919 = .ok (.lconst 1, 1) := dk_10 (dk_at dksL_law_75 11 rfl rfl)
theorem dL_law_1920 : decode cL_law 1920 = .ok (.goto 4, 3) := dk_167 0 4 (dk_at dksL_law_75 12 rfl rfl)
theorem dL_law_1923 : decode cL_law 1923 = .ok (.lconst 0, 1) := dk_9 (dk_at dksL_law_75 15 rfl rfl)
theorem dL_law_1924 : decode cL_law 1924 = .ok (.lcmp, 1) := dk_148 (dk_at dksL_law_75 16 rfl rfl)
theorem dL_law_1925 : decode cL_law 1925 = .ok (.ifCond .eq 5, 3) := dk_153 0 5 (dk_at dksL_law_75 17 rfl rfl)
theorem dL_law_1928 : decode cL_law 1928 = .ok (.iconst 0, 1) := dk_3 (dk_at dksL_law_75 20 rfl rfl)
theorem dL_law_1929 : decode cL_law 1929 = .ok (.ireturn, 1) := dk_172 (dk_at dksL_law_75 21 rfl rfl)
theorem dL_law_1930 : decode cL_law 1930 = .ok (.goto 388, 3) := dk_167 1 132 (dk_at dksL_law_76 0 rfl rfl)
theorem dL_law_1933 : decode cL_law 1933 = .ok (.aload_n 1, 1) := dk_43 (dk_at dksL_law_76 3 rfl rfl)
theorem dL_law_1934 : decode cL_law 1934 = .ok (.invokevirtual 245, 3) := dk_182 0 245 (dk_at dksL_law_76 4 rfl rfl)
theorem dL_law_1937 : decode cL_law 1937 = .ok (.aload_n 2, 1) := dk_44 (dk_at dksL_law_76 7 rfl rfl)
theorem dL_law_1938 : decode cL_law 1938 = .ok (.invokevirtual 248, 3) := dk_182 0 248 (dk_at dksL_law_76 8 rfl rfl)
theorem dL_law_1941 : decode cL_law 1941 = .ok (.if_icmp .eq 377, 3) := dk_159 1 121 (dk_at dksL_law_76 11 rfl rfl)
theorem dL_law_1944 : decode cL_law 1944 = .ok (.iconst 0, 1) := dk_3 (dk_at dksL_law_76 14 rfl rfl)
theorem dL_law_1945 : decode cL_law 1945 = .ok (.ireturn, 1) := dk_172 (dk_at dksL_law_76 15 rfl rfl)
theorem dL_law_1946 : decode cL_law 1946 = .ok (.aload_n 1, 1) := dk_43 (dk_at dksL_law_76 16 rfl rfl)
theorem dL_law_1947 : decode cL_law 1947 = .ok (.aload_n 0, 1) := dk_42 (dk_at dksL_law_76 17 rfl rfl)
theorem dL_law_1948 : decode cL_law 1948 = .ok (.iload 4, 2) := dk_21 4 (dk_at dksL_law_76 18 rfl rfl)
theorem dL_law_1950 : decode cL_law 1950 = .ok (.iconst 1, 1) := dk_4 (dk_at dksL_law_76 20 rfl rfl)
theorem dL_law_1951 : decode cL_law 1951 = .ok (.iadd, 1) := dk_96 (dk_at dksL_law_76 21 rfl rfl)
theorem dL_law_1952 : decode cL_law 1952 = .ok (.iaload, 1) := dk_46 (dk_at dksL_law_76 22 rfl rfl)
theorem dL_law_1953 : decode cL_law 1953 = .ok (.aload_n 3, 1) := dk_45 (dk_at dksL_law_76 23 rfl rfl)
theorem dL_law_1954 : decode cL_law 1954 = .ok (.invokestatic 249, 3) := dk_184 0 249 (dk_at dksL_law_77 0 rfl rfl)
theorem dL_law_1957 : decode cL_law 1957 = .ok (.istore 5, 2) := dk_54 5 (dk_at dksL_law_77 3 rfl rfl)
theorem dL_law_1959 : decode cL_law 1959 = .ok (.aload_n 2, 1) := dk_44 (dk_at dksL_law_77 5 rfl rfl)
theorem dL_law_1960 : decode cL_law 1960 = .ok (.aload_n 0, 1) := dk_42 (dk_at dksL_law_77 6 rfl rfl)
theorem dL_law_1961 : decode cL_law 1961 = .ok (.iload 4, 2) := dk_21 4 (dk_at dksL_law_77 7 rfl rfl)
theorem dL_law_1963 : decode cL_law 1963 = .ok (.iconst 1, 1) := dk_4 (dk_at dksL_law_77 9 rfl rfl)
theorem dL_law_1964 : decode cL_law 1964 = .ok (.iadd, 1) := dk_96 (dk_at dksL_law_77 10 rfl rfl)
theorem dL_law_1965 : decode cL_law 1965 = .ok (.iaload, 1) := dk_46 (dk_at dksL_law_77 11 rfl rfl)
theorem dL_law_1966 : decode cL_law 1966 = .ok (.invokevirtual 251, 3) := dk_182 0 251 (dk_at dksL_law_77 12 rfl rfl)
theorem dL_law_1969 : decode cL_law 1969 = .ok (.istore 6, 2) := dk_54 6 (dk_at dksL_law_77 15 rfl rfl)
theorem dL_law_1971 : decode cL_law 1971 = .ok (.aload_n 2, 1) := dk_44 (dk_at dksL_law_77 17 rfl rfl)
theorem dL_law_1972 : decode cL_law 1972 = .ok (.invokevirtual 123, 3) := dk_182 0 123 (dk_at dksL_law_77 18 rfl rfl)
theorem dL_law_1975 : decode cL_law 1975 = .ok (.iload 5, 2) := dk_21 5 (dk_at dksL_law_77 21 rfl rfl)
theorem dL_law_1977 : decode cL_law 1977 = .ok (.if_icmp .eq 5, 3) := dk_159 0 5 (dk_at dksL_law_78 0 rfl rfl)
theorem dL_law_1980 : decode cL_law 1980 = .ok (.iconst 0, 1) := dk_3 (dk_at dksL_law_78 3 rfl rfl)
theorem dL_law_1981 : decode cL_law 1981 = .ok (.ireturn, 1) := dk_172 (dk_at dksL_law_78 4 rfl rfl)
theorem dL_law_1982 : decode cL_law 1982 = .ok (.iload 5, 2) := dk_21 5 (dk_at dksL_law_78 5 rfl rfl)
theorem dL_law_1984 : decode cL_law 1984 = .ok (.ifCond .ne 15, 3) := dk_154 0 15 (dk_at dksL_law_78 7 rfl rfl)
theorem dL_law_1987 : decode cL_law 1987 = .ok (.aload_n 3, 1) := dk_45 (dk_at dksL_law_78 10 rfl rfl)
theorem dL_law_1988 : decode cL_law 1988 = .ok (.iconst 0, 1) := dk_3 (dk_at dksL_law_78 11 rfl rfl)
theorem dL_law_1989 : decode cL_law 1989 = .ok (.laload, 1) := dk_47 (dk_at dksL_law_78 12 rfl rfl)
theorem dL_law_1990 : decode cL_law 1990 = .ok (.iload 6, 2) := dk_21 6 (dk_at dksL_law_78 13 rfl rfl)
theorem dL_law_1992 : decode cL_law 1992 = .ok (.i2l, 1) := dk_133 (dk_at dksL_law_78 15 rfl rfl)
theorem dL_law_1993 : decode cL_law 1993 = .ok (.lcmp, 1) := dk_148 (dk_at dksL_law_78 16 rfl rfl)
theorem dL_law_1994 : decode cL_law 1994 = .ok (.ifCond .eq 5, 3) := dk_153 0 5 (dk_at dksL_law_78 17 rfl rfl)
theorem dL_law_1997 : decode cL_law 1997 = .ok (.iconst 0, 1) := dk_3 (dk_at dksL_law_78 20 rfl rfl)
theorem dL_law_1998 : decode cL_law 1998 = .ok (.ireturn, 1) := dk_172 (dk_at dksL_law_78 21 rfl rfl)
theorem dL_law_1999 : decode cL_law 1999 = .ok (.goto 319, 3) := dk_167 1 63 (dk_at dksL_law_79 0 rfl rfl)
theorem dL_law_2002 : decode cL_law 2002 = .ok (.aload_n 1, 1) := dk_43 (dk_at dksL_law_79 3 rfl rfl)
theorem dL_law_2003 : decode cL_law 2003 = .ok (.aload_n 0, 1) := dk_42 (dk_at dksL_law_79 4 rfl rfl)
theorem dL_law_2004 : decode cL_law 2004 = .ok (.iload 4, 2) := dk_21 4 (dk_at dksL_law_79 5 rfl rfl)
theorem dL_law_2006 : decode cL_law 2006 = .ok (.iconst 1, 1) := dk_4 (dk_at dksL_law_79 7 rfl rfl)
theorem dL_law_2007 : decode cL_law 2007 = .ok (.iadd, 1) := dk_96 (dk_at dksL_law_79 8 rfl rfl)
theorem dL_law_2008 : decode cL_law 2008 = .ok (.iaload, 1) := dk_46 (dk_at dksL_law_79 9 rfl rfl)
theorem dL_law_2009 : decode cL_law 2009 = .ok (.aload_n 3, 1) := dk_45 (dk_at dksL_law_79 10 rfl rfl)
theorem dL_law_2010 : decode cL_law 2010 = .ok (.invokestatic 252, 3) := dk_184 0 252 (dk_at dksL_law_79 11 rfl rfl)
theorem dL_law_2013 : decode cL_law 2013 = .ok (.istore 5, 2) := dk_54 5 (dk_at dksL_law_79 14 rfl rfl)
theorem dL_law_2015 : decode cL_law 2015 = .ok (.aload_n 2, 1) := dk_44 (dk_at dksL_law_79 16 rfl rfl)
theorem dL_law_2016 : decode cL_law 2016 = .ok (.aload_n 0, 1) := dk_42 (dk_at dksL_law_79 17 rfl rfl)
theorem dL_law_2017 : decode cL_law 2017 = .ok (.iload 4, 2) := dk_21 4 (dk_at dksL_law_79 18 rfl rfl)
theorem dL_law_2019 : decode cL_law 2019 = .ok (.iconst 1, 1) := dk_4 (dk_at dksL_law_79 20 rfl rfl)
theorem dL_law_2020 : decode cL_law 2020 = .ok (.iadd, 1) := dk_96 (dk_at dksL_law_79 21 rfl rfl)
theorem dL_law_2021 : decode cL_law 2021 = .ok (.iaload, 1) := dk_46 (dk_at dksL_law_79 22 rfl rfl)
theorem dL_law_2022 : decode cL_law 2022 = .ok (.invokevirtual 254, 3) := dk_182 0 254 (dk_at dksL_law_80 0 rfl rfl)
theorem dL_law_2025 : decode cL_law 2025 = .ok (.istore 6, 2) := dk_54 6 (dk_at dksL_law_80 3 rfl rfl)
theorem dL_law_2027 : decode cL_law 2027 = .ok (.aload_n 2, 1) := dk_44 (dk_at dksL_law_80 5 rfl rfl)
theorem dL_law_2028 : decode cL_law 2028 = .ok (.invokevirtual 123, 3) := dk_182 0 123 (dk_at dksL_law_80 6 rfl rfl)
theorem dL_law_2031 : decode cL_law 2031 = .ok (.iload 5, 2) := dk_21 5 (dk_at dksL_law_80 9 rfl rfl)
theorem dL_law_2033 : decode cL_law 2033 = .ok (.if_icmp .eq 5, 3) := dk_159 0 5 (dk_at dksL_law_80 11 rfl rfl)
theorem dL_law_2036 : decode cL_law 2036 = .ok (.iconst 0, 1) := dk_3 (dk_at dksL_law_80 14 rfl rfl)
theorem dL_law_2037 : decode cL_law 2037 = .ok (.ireturn, 1) := dk_172 (dk_at dksL_law_80 15 rfl rfl)
theorem dL_law_2038 : decode cL_law 2038 = .ok (.iload 5, 2) := dk_21 5 (dk_at dksL_law_80 16 rfl rfl)
theorem dL_law_2040 : decode cL_law 2040 = .ok (.ifCond .ne 15, 3) := dk_154 0 15 (dk_at dksL_law_80 18 rfl rfl)
theorem dL_law_2043 : decode cL_law 2043 = .ok (.aload_n 3, 1) := dk_45 (dk_at dksL_law_80 21 rfl rfl)
theorem dL_law_2044 : decode cL_law 2044 = .ok (.iconst 0, 1) := dk_3 (dk_at dksL_law_80 22 rfl rfl)
theorem dL_law_2045 : decode cL_law 2045 = .ok (.laload, 1) := dk_47 (dk_at dksL_law_80 23 rfl rfl)
theorem dL_law_2046 : decode cL_law 2046 = .ok (.iload 6, 2) := dk_21 6 (dk_at dksL_law_81 0 rfl rfl)
theorem dL_law_2048 : decode cL_law 2048 = .ok (.i2l, 1) := dk_133 (dk_at dksL_law_81 2 rfl rfl)
theorem dL_law_2049 : decode cL_law 2049 = .ok (.lcmp, 1) := dk_148 (dk_at dksL_law_81 3 rfl rfl)
theorem dL_law_2050 : decode cL_law 2050 = .ok (.ifCond .eq 5, 3) := dk_153 0 5 (dk_at dksL_law_81 4 rfl rfl)
theorem dL_law_2053 : decode cL_law 2053 = .ok (.iconst 0, 1) := dk_3 (dk_at dksL_law_81 7 rfl rfl)
theorem dL_law_2054 : decode cL_law 2054 = .ok (.ireturn, 1) := dk_172 (dk_at dksL_law_81 8 rfl rfl)
theorem dL_law_2055 : decode cL_law 2055 = .ok (.goto 263, 3) := dk_167 1 7 (dk_at dksL_law_81 9 rfl rfl)
theorem dL_law_2058 : decode cL_law 2058 = .ok (.aload_n 1, 1) := dk_43 (dk_at dksL_law_81 12 rfl rfl)
theorem dL_law_2059 : decode cL_law 2059 = .ok (.invokevirtual 255, 3) := dk_182 0 255 (dk_at dksL_law_81 13 rfl rfl)
theorem dL_law_2062 : decode cL_law 2062 = .ok (.aload_n 2, 1) := dk_44 (dk_at dksL_law_81 16 rfl rfl)
theorem dL_law_2063 : decode cL_law 2063 = .ok (.invokevirtual 258, 3) := dk_182 1 2 (dk_at dksL_law_81 17 rfl rfl)
theorem dL_law_2066 : decode cL_law 2066 = .ok (.if_icmp .eq 252, 3) := dk_159 0 252 (dk_at dksL_law_81 20 rfl rfl)
theorem dL_law_2069 : decode cL_law 2069 = .ok (.iconst 0, 1) := dk_3 (dk_at dksL_law_81 23 rfl rfl)
theorem dL_law_2070 : decode cL_law 2070 = .ok (.ireturn, 1) := dk_172 (dk_at dksL_law_82 0 rfl rfl)
theorem dL_law_2071 : decode cL_law 2071 = .ok (.aload_n 1, 1) := dk_43 (dk_at dksL_law_82 1 rfl rfl)
theorem dL_law_2072 : decode cL_law 2072 = .ok (.aload_n 0, 1) := dk_42 (dk_at dksL_law_82 2 rfl rfl)
theorem dL_law_2073 : decode cL_law 2073 = .ok (.iload 4, 2) := dk_21 4 (dk_at dksL_law_82 3 rfl rfl)
theorem dL_law_2075 : decode cL_law 2075 = .ok (.iconst 1, 1) := dk_4 (dk_at dksL_law_82 5 rfl rfl)
theorem dL_law_2076 : decode cL_law 2076 = .ok (.iadd, 1) := dk_96 (dk_at dksL_law_82 6 rfl rfl)
theorem dL_law_2077 : decode cL_law 2077 = .ok (.iaload, 1) := dk_46 (dk_at dksL_law_82 7 rfl rfl)
theorem dL_law_2078 : decode cL_law 2078 = .ok (.aload_n 0, 1) := dk_42 (dk_at dksL_law_82 8 rfl rfl)
theorem dL_law_2079 : decode cL_law 2079 = .ok (.iload 4, 2) := dk_21 4 (dk_at dksL_law_82 9 rfl rfl)
theorem dL_law_2081 : decode cL_law 2081 = .ok (.iconst 2, 1) := dk_5 (dk_at dksL_law_82 11 rfl rfl)
theorem dL_law_2082 : decode cL_law 2082 = .ok (.iadd, 1) := dk_96 (dk_at dksL_law_82 12 rfl rfl)
theorem dL_law_2083 : decode cL_law 2083 = .ok (.iaload, 1) := dk_46 (dk_at dksL_law_82 13 rfl rfl)
theorem dL_law_2084 : decode cL_law 2084 = .ok (.aload_n 0, 1) := dk_42 (dk_at dksL_law_82 14 rfl rfl)
theorem dL_law_2085 : decode cL_law 2085 = .ok (.iload 4, 2) := dk_21 4 (dk_at dksL_law_82 15 rfl rfl)
theorem dL_law_2087 : decode cL_law 2087 = .ok (.iconst 3, 1) := dk_6 (dk_at dksL_law_82 17 rfl rfl)
theorem dL_law_2088 : decode cL_law 2088 = .ok (.iadd, 1) := dk_96 (dk_at dksL_law_82 18 rfl rfl)
theorem dL_law_2089 : decode cL_law 2089 = .ok (.iaload, 1) := dk_46 (dk_at dksL_law_82 19 rfl rfl)
theorem dL_law_2090 : decode cL_law 2090 = .ok (.aload_n 3, 1) := dk_45 (dk_at dksL_law_82 20 rfl rfl)
theorem dL_law_2091 : decode cL_law 2091 = .ok (.invokestatic 259, 3) := dk_184 1 3 (dk_at dksL_law_82 21 rfl rfl)
theorem dL_law_2094 : decode cL_law 2094 = .ok (.istore 5, 2) := dk_54 5 (dk_at dksL_law_83 0 rfl rfl)
theorem dL_law_2096 : decode cL_law 2096 = .ok (.aload_n 2, 1) := dk_44 (dk_at dksL_law_83 2 rfl rfl)
theorem dL_law_2097 : decode cL_law 2097 = .ok (.aload_n 0, 1) := dk_42 (dk_at dksL_law_83 3 rfl rfl)
theorem dL_law_2098 : decode cL_law 2098 = .ok (.iload 4, 2) := dk_21 4 (dk_at dksL_law_83 4 rfl rfl)
theorem dL_law_2100 : decode cL_law 2100 = .ok (.iconst 1, 1) := dk_4 (dk_at dksL_law_83 6 rfl rfl)
theorem dL_law_2101 : decode cL_law 2101 = .ok (.iadd, 1) := dk_96 (dk_at dksL_law_83 7 rfl rfl)
theorem dL_law_2102 : decode cL_law 2102 = .ok (.iaload, 1) := dk_46 (dk_at dksL_law_83 8 rfl rfl)
theorem dL_law_2103 : decode cL_law 2103 = .ok (.aload_n 0, 1) := dk_42 (dk_at dksL_law_83 9 rfl rfl)
theorem dL_law_2104 : decode cL_law 2104 = .ok (.iload 4, 2) := dk_21 4 (dk_at dksL_law_83 10 rfl rfl)
theorem dL_law_2106 : decode cL_law 2106 = .ok (.iconst 2, 1) := dk_5 (dk_at dksL_law_83 12 rfl rfl)
theorem dL_law_2107 : decode cL_law 2107 = .ok (.iadd, 1) := dk_96 (dk_at dksL_law_83 13 rfl rfl)
theorem dL_law_2108 : decode cL_law 2108 = .ok (.iaload, 1) := dk_46 (dk_at dksL_law_83 14 rfl rfl)
theorem dL_law_2109 : decode cL_law 2109 = .ok (.aload_n 0, 1) := dk_42 (dk_at dksL_law_83 15 rfl rfl)
theorem dL_law_2110 : decode cL_law 2110 = .ok (.iload 4, 2) := dk_21 4 (dk_at dksL_law_83 16 rfl rfl)
theorem dL_law_2112 : decode cL_law 2112 = .ok (.iconst 3, 1) := dk_6 (dk_at dksL_law_83 18 rfl rfl)
theorem dL_law_2113 : decode cL_law 2113 = .ok (.iadd, 1) := dk_96 (dk_at dksL_law_83 19 rfl rfl)
theorem dL_law_2114 : decode cL_law 2114 = .ok (.iaload, 1) := dk_46 (dk_at dksL_law_83 20 rfl rfl)
theorem dL_law_2115 : decode cL_law 2115 = .ok (.invokevirtual 261, 3) := dk_182 1 5 (dk_at dksL_law_83 21 rfl rfl)
theorem dL_law_2118 : decode cL_law 2118 = .ok (.istore 6, 2) := dk_54 6 (dk_at dksL_law_84 0 rfl rfl)
theorem dL_law_2120 : decode cL_law 2120 = .ok (.aload_n 2, 1) := dk_44 (dk_at dksL_law_84 2 rfl rfl)
theorem dL_law_2121 : decode cL_law 2121 = .ok (.invokevirtual 123, 3) := dk_182 0 123 (dk_at dksL_law_84 3 rfl rfl)
theorem dL_law_2124 : decode cL_law 2124 = .ok (.iload 5, 2) := dk_21 5 (dk_at dksL_law_84 6 rfl rfl)
theorem dL_law_2126 : decode cL_law 2126 = .ok (.if_icmp .eq 5, 3) := dk_159 0 5 (dk_at dksL_law_84 8 rfl rfl)
theorem dL_law_2129 : decode cL_law 2129 = .ok (.iconst 0, 1) := dk_3 (dk_at dksL_law_84 11 rfl rfl)
theorem dL_law_2130 : decode cL_law 2130 = .ok (.ireturn, 1) := dk_172 (dk_at dksL_law_84 12 rfl rfl)
theorem dL_law_2131 : decode cL_law 2131 = .ok (.iload 5, 2) := dk_21 5 (dk_at dksL_law_84 13 rfl rfl)
theorem dL_law_2133 : decode cL_law 2133 = .ok (.ifCond .ne 15, 3) := dk_154 0 15 (dk_at dksL_law_84 15 rfl rfl)
theorem dL_law_2136 : decode cL_law 2136 = .ok (.aload_n 3, 1) := dk_45 (dk_at dksL_law_84 18 rfl rfl)
theorem dL_law_2137 : decode cL_law 2137 = .ok (.iconst 0, 1) := dk_3 (dk_at dksL_law_84 19 rfl rfl)
theorem dL_law_2138 : decode cL_law 2138 = .ok (.laload, 1) := dk_47 (dk_at dksL_law_84 20 rfl rfl)
theorem dL_law_2139 : decode cL_law 2139 = .ok (.iload 6, 2) := dk_21 6 (dk_at dksL_law_84 21 rfl rfl)
theorem dL_law_2141 : decode cL_law 2141 = .ok (.i2l, 1) := dk_133 (dk_at dksL_law_84 23 rfl rfl)
theorem dL_law_2142 : decode cL_law 2142 = .ok (.lcmp, 1) := dk_148 (dk_at dksL_law_85 0 rfl rfl)
theorem dL_law_2143 : decode cL_law 2143 = .ok (.ifCond .eq 5, 3) := dk_153 0 5 (dk_at dksL_law_85 1 rfl rfl)
theorem dL_law_2146 : decode cL_law 2146 = .ok (.iconst 0, 1) := dk_3 (dk_at dksL_law_85 4 rfl rfl)
theorem dL_law_2147 : decode cL_law 2147 = .ok (.ireturn, 1) := dk_172 (dk_at dksL_law_85 5 rfl rfl)
theorem dL_law_2148 : decode cL_law 2148 = .ok (.goto 170, 3) := dk_167 0 170 (dk_at dksL_law_85 6 rfl rfl)
theorem dL_law_2151 : decode cL_law 2151 = .ok (.aload_n 1, 1) := dk_43 (dk_at dksL_law_85 9 rfl rfl)
theorem dL_law_2152 : decode cL_law 2152 = .ok (.aload_n 0, 1) := dk_42 (dk_at dksL_law_85 10 rfl rfl)
theorem dL_law_2153 : decode cL_law 2153 = .ok (.iload 4, 2) := dk_21 4 (dk_at dksL_law_85 11 rfl rfl)
theorem dL_law_2155 : decode cL_law 2155 = .ok (.iconst 1, 1) := dk_4 (dk_at dksL_law_85 13 rfl rfl)
theorem dL_law_2156 : decode cL_law 2156 = .ok (.iadd, 1) := dk_96 (dk_at dksL_law_85 14 rfl rfl)
theorem dL_law_2157 : decode cL_law 2157 = .ok (.iaload, 1) := dk_46 (dk_at dksL_law_85 15 rfl rfl)
theorem dL_law_2158 : decode cL_law 2158 = .ok (.aload_n 3, 1) := dk_45 (dk_at dksL_law_85 16 rfl rfl)
theorem dL_law_2159 : decode cL_law 2159 = .ok (.invokestatic 262, 3) := dk_184 1 6 (dk_at dksL_law_85 17 rfl rfl)
theorem dL_law_2162 : decode cL_law 2162 = .ok (.istore 5, 2) := dk_54 5 (dk_at dksL_law_85 20 rfl rfl)
theorem dL_law_2164 : decode cL_law 2164 = .ok (.aload_n 2, 1) := dk_44 (dk_at dksL_law_85 22 rfl rfl)
theorem dL_law_2165 : decode cL_law 2165 = .ok (.aload_n 0, 1) := dk_42 (dk_at dksL_law_85 23 rfl rfl)
theorem dL_law_2166 : decode cL_law 2166 = .ok (.iload 4, 2) := dk_21 4 (dk_at dksL_law_86 0 rfl rfl)
theorem dL_law_2168 : decode cL_law 2168 = .ok (.iconst 1, 1) := dk_4 (dk_at dksL_law_86 2 rfl rfl)
theorem dL_law_2169 : decode cL_law 2169 = .ok (.iadd, 1) := dk_96 (dk_at dksL_law_86 3 rfl rfl)
theorem dL_law_2170 : decode cL_law 2170 = .ok (.iaload, 1) := dk_46 (dk_at dksL_law_86 4 rfl rfl)
theorem dL_law_2171 : decode cL_law 2171 = .ok (.invokevirtual 264, 3) := dk_182 1 8 (dk_at dksL_law_86 5 rfl rfl)
theorem dL_law_2174 : decode cL_law 2174 = .ok (.istore 6, 2) := dk_54 6 (dk_at dksL_law_86 8 rfl rfl)
theorem dL_law_2176 : decode cL_law 2176 = .ok (.aload_n 2, 1) := dk_44 (dk_at dksL_law_86 10 rfl rfl)
theorem dL_law_2177 : decode cL_law 2177 = .ok (.invokevirtual 123, 3) := dk_182 0 123 (dk_at dksL_law_86 11 rfl rfl)
theorem dL_law_2180 : decode cL_law 2180 = .ok (.iload 5, 2) := dk_21 5 (dk_at dksL_law_86 14 rfl rfl)
theorem dL_law_2182 : decode cL_law 2182 = .ok (.if_icmp .eq 5, 3) := dk_159 0 5 (dk_at dksL_law_86 16 rfl rfl)
theorem dL_law_2185 : decode cL_law 2185 = .ok (.iconst 0, 1) := dk_3 (dk_at dksL_law_86 19 rfl rfl)
theorem dL_law_2186 : decode cL_law 2186 = .ok (.ireturn, 1) := dk_172 (dk_at dksL_law_86 20 rfl rfl)
theorem dL_law_2187 : decode cL_law 2187 = .ok (.iload 5, 2) := dk_21 5 (dk_at dksL_law_86 21 rfl rfl)
theorem dL_law_2189 : decode cL_law 2189 = .ok (.ifCond .ne 15, 3) := dk_154 0 15 (dk_at dksL_law_87 0 rfl rfl)
theorem dL_law_2192 : decode cL_law 2192 = .ok (.aload_n 3, 1) := dk_45 (dk_at dksL_law_87 3 rfl rfl)
theorem dL_law_2193 : decode cL_law 2193 = .ok (.iconst 0, 1) := dk_3 (dk_at dksL_law_87 4 rfl rfl)
theorem dL_law_2194 : decode cL_law 2194 = .ok (.laload, 1) := dk_47 (dk_at dksL_law_87 5 rfl rfl)
theorem dL_law_2195 : decode cL_law 2195 = .ok (.iload 6, 2) := dk_21 6 (dk_at dksL_law_87 6 rfl rfl)
theorem dL_law_2197 : decode cL_law 2197 = .ok (.i2l, 1) := dk_133 (dk_at dksL_law_87 8 rfl rfl)
theorem dL_law_2198 : decode cL_law 2198 = .ok (.lcmp, 1) := dk_148 (dk_at dksL_law_87 9 rfl rfl)
theorem dL_law_2199 : decode cL_law 2199 = .ok (.ifCond .eq 5, 3) := dk_153 0 5 (dk_at dksL_law_87 10 rfl rfl)
theorem dL_law_2202 : decode cL_law 2202 = .ok (.iconst 0, 1) := dk_3 (dk_at dksL_law_87 13 rfl rfl)
theorem dL_law_2203 : decode cL_law 2203 = .ok (.ireturn, 1) := dk_172 (dk_at dksL_law_87 14 rfl rfl)
theorem dL_law_2204 : decode cL_law 2204 = .ok (.goto 114, 3) := dk_167 0 114 (dk_at dksL_law_87 15 rfl rfl)
theorem dL_law_2207 : decode cL_law 2207 = .ok (.aload_n 1, 1) := dk_43 (dk_at dksL_law_87 18 rfl rfl)
theorem dL_law_2208 : decode cL_law 2208 = .ok (.aload_n 0, 1) := dk_42 (dk_at dksL_law_87 19 rfl rfl)
theorem dL_law_2209 : decode cL_law 2209 = .ok (.iload 4, 2) := dk_21 4 (dk_at dksL_law_87 20 rfl rfl)
theorem dL_law_2211 : decode cL_law 2211 = .ok (.iconst 1, 1) := dk_4 (dk_at dksL_law_87 22 rfl rfl)
theorem dL_law_2212 : decode cL_law 2212 = .ok (.iadd, 1) := dk_96 (dk_at dksL_law_87 23 rfl rfl)
theorem dL_law_2213 : decode cL_law 2213 = .ok (.iaload, 1) := dk_46 (dk_at dksL_law_88 0 rfl rfl)
theorem dL_law_2214 : decode cL_law 2214 = .ok (.aload_n 3, 1) := dk_45 (dk_at dksL_law_88 1 rfl rfl)
theorem dL_law_2215 : decode cL_law 2215 = .ok (.invokestatic 265, 3) := dk_184 1 9 (dk_at dksL_law_88 2 rfl rfl)
theorem dL_law_2218 : decode cL_law 2218 = .ok (.istore 5, 2) := dk_54 5 (dk_at dksL_law_88 5 rfl rfl)
theorem dL_law_2220 : decode cL_law 2220 = .ok (.aload_n 2, 1) := dk_44 (dk_at dksL_law_88 7 rfl rfl)
theorem dL_law_2221 : decode cL_law 2221 = .ok (.aload_n 0, 1) := dk_42 (dk_at dksL_law_88 8 rfl rfl)
theorem dL_law_2222 : decode cL_law 2222 = .ok (.iload 4, 2) := dk_21 4 (dk_at dksL_law_88 9 rfl rfl)
theorem dL_law_2224 : decode cL_law 2224 = .ok (.iconst 1, 1) := dk_4 (dk_at dksL_law_88 11 rfl rfl)
theorem dL_law_2225 : decode cL_law 2225 = .ok (.iadd, 1) := dk_96 (dk_at dksL_law_88 12 rfl rfl)
theorem dL_law_2226 : decode cL_law 2226 = .ok (.iaload, 1) := dk_46 (dk_at dksL_law_88 13 rfl rfl)
theorem dL_law_2227 : decode cL_law 2227 = .ok (.invokevirtual 267, 3) := dk_182 1 11 (dk_at dksL_law_88 14 rfl rfl)
theorem dL_law_2230 : decode cL_law 2230 = .ok (.istore 6, 2) := dk_54 6 (dk_at dksL_law_88 17 rfl rfl)
theorem dL_law_2232 : decode cL_law 2232 = .ok (.aload_n 2, 1) := dk_44 (dk_at dksL_law_88 19 rfl rfl)
theorem dL_law_2233 : decode cL_law 2233 = .ok (.invokevirtual 123, 3) := dk_182 0 123 (dk_at dksL_law_88 20 rfl rfl)
theorem dL_law_2236 : decode cL_law 2236 = .ok (.iload 5, 2) := dk_21 5 (dk_at dksL_law_89 0 rfl rfl)
theorem dL_law_2238 : decode cL_law 2238 = .ok (.if_icmp .eq 5, 3) := dk_159 0 5 (dk_at dksL_law_89 2 rfl rfl)
theorem dL_law_2241 : decode cL_law 2241 = .ok (.iconst 0, 1) := dk_3 (dk_at dksL_law_89 5 rfl rfl)
theorem dL_law_2242 : decode cL_law 2242 = .ok (.ireturn, 1) := dk_172 (dk_at dksL_law_89 6 rfl rfl)
theorem dL_law_2243 : decode cL_law 2243 = .ok (.iload 5, 2) := dk_21 5 (dk_at dksL_law_89 7 rfl rfl)
theorem dL_law_2245 : decode cL_law 2245 = .ok (.ifCond .ne 15, 3) := dk_154 0 15 (dk_at dksL_law_89 9 rfl rfl)
theorem dL_law_2248 : decode cL_law 2248 = .ok (.aload_n 3, 1) := dk_45 (dk_at dksL_law_89 12 rfl rfl)
theorem dL_law_2249 : decode cL_law 2249 = .ok (.iconst 0, 1) := dk_3 (dk_at dksL_law_89 13 rfl rfl)
theorem dL_law_2250 : decode cL_law 2250 = .ok (.laload, 1) := dk_47 (dk_at dksL_law_89 14 rfl rfl)
theorem dL_law_2251 : decode cL_law 2251 = .ok (.iload 6, 2) := dk_21 6 (dk_at dksL_law_89 15 rfl rfl)
theorem dL_law_2253 : decode cL_law 2253 = .ok (.i2l, 1) := dk_133 (dk_at dksL_law_89 17 rfl rfl)
theorem dL_law_2254 : decode cL_law 2254 = .ok (.lcmp, 1) := dk_148 (dk_at dksL_law_89 18 rfl rfl)
theorem dL_law_2255 : decode cL_law 2255 = .ok (.ifCond .eq 5, 3) := dk_153 0 5 (dk_at dksL_law_89 19 rfl rfl)
theorem dL_law_2258 : decode cL_law 2258 = .ok (.iconst 0, 1) := dk_3 (dk_at dksL_law_89 22 rfl rfl)
theorem dL_law_2259 : decode cL_law 2259 = .ok (.ireturn, 1) := dk_172 (dk_at dksL_law_89 23 rfl rfl)
theorem dL_law_2260 : decode cL_law 2260 = .ok (.goto 58, 3) := dk_167 0 58 (dk_at dksL_law_90 0 rfl rfl)
theorem dL_law_2263 : decode cL_law 2263 = .ok (.aload_n 1, 1) := dk_43 (dk_at dksL_law_90 3 rfl rfl)
theorem dL_law_2264 : decode cL_law 2264 = .ok (.invokevirtual 268, 3) := dk_182 1 12 (dk_at dksL_law_90 4 rfl rfl)
theorem dL_law_2267 : decode cL_law 2267 = .ok (.dstore 5, 2) := dk_57 5 (dk_at dksL_law_90 7 rfl rfl)
theorem dL_law_2269 : decode cL_law 2269 = .ok (.aload_n 2, 1) := dk_44 (dk_at dksL_law_90 9 rfl rfl)
theorem dL_law_2270 : decode cL_law 2270 = .ok (.invokevirtual 272, 3) := dk_182 1 16 (dk_at dksL_law_90 10 rfl rfl)
theorem dL_law_2273 : decode cL_law 2273 = .ok (.dstore 7, 2) := dk_57 7 (dk_at dksL_law_90 13 rfl rfl)
theorem dL_law_2275 : decode cL_law 2275 = .ok (.dload 5, 2) := dk_24 5 (dk_at dksL_law_90 15 rfl rfl)
theorem dL_law_2277 : decode cL_law 2277 = .ok (.dload 7, 2) := dk_24 7 (dk_at dksL_law_90 17 rfl rfl)
theorem dL_law_2279 : decode cL_law 2279 = .ok (.dcmp .l, 1) := dk_151 (dk_at dksL_law_90 19 rfl rfl)
theorem dL_law_2280 : decode cL_law 2280 = .ok (.ifCond .eq 21, 3) := dk_153 0 21 (dk_at dksL_law_90 20 rfl rfl)
theorem dL_law_2283 : decode cL_law 2283 = .ok (.dload 5, 2) := dk_24 5 (dk_at dksL_law_91 0 rfl rfl)
theorem dL_law_2285 : decode cL_law 2285 = .ok (.dload 5, 2) := dk_24 5 (dk_at dksL_law_91 2 rfl rfl)
theorem dL_law_2287 : decode cL_law 2287 = .ok (.dcmp .l, 1) := dk_151 (dk_at dksL_law_91 4 rfl rfl)
theorem dL_law_2288 : decode cL_law 2288 = .ok (.ifCond .eq 11, 3) := dk_153 0 11 (dk_at dksL_law_91 5 rfl rfl)
theorem dL_law_2291 : decode cL_law 2291 = .ok (.dload 7, 2) := dk_24 7 (dk_at dksL_law_91 8 rfl rfl)
theorem dL_law_2293 : decode cL_law 2293 = .ok (.dload 7, 2) := dk_24 7 (dk_at dksL_law_91 10 rfl rfl)
theorem dL_law_2295 : decode cL_law 2295 = .ok (.dcmp .l, 1) := dk_151 (dk_at dksL_law_91 12 rfl rfl)
theorem dL_law_2296 : decode cL_law 2296 = .ok (.ifCond .ne 5, 3) := dk_154 0 5 (dk_at dksL_law_91 13 rfl rfl)
theorem dL_law_2299 : decode cL_law 2299 = .ok (.iconst 0, 1) := dk_3 (dk_at dksL_law_91 16 rfl rfl)
theorem dL_law_2300 : decode cL_law 2300 = .ok (.ireturn, 1) := dk_172 (dk_at dksL_law_91 17 rfl rfl)
theorem dL_law_2301 : decode cL_law 2301 = .ok (.goto 17, 3) := dk_167 0 17 (dk_at dksL_law_91 18 rfl rfl)
theorem dL_law_2304 : decode cL_law 2304 = .ok (.aload_n 1, 1) := dk_43 (dk_at dksL_law_91 21 rfl rfl)
theorem dL_law_2305 : decode cL_law 2305 = .ok (.invokevirtual 273, 3) := dk_182 1 17 (dk_at dksL_law_92 0 rfl rfl)
theorem dL_law_2308 : decode cL_law 2308 = .ok (.aload_n 2, 1) := dk_44 (dk_at dksL_law_92 3 rfl rfl)
theorem dL_law_2309 : decode cL_law 2309 = .ok (.invokevirtual 277, 3) := dk_182 1 21 (dk_at dksL_law_92 4 rfl rfl)
theorem dL_law_2312 : decode cL_law 2312 = .ok (.lcmp, 1) := dk_148 (dk_at dksL_law_92 7 rfl rfl)
theorem dL_law_2313 : decode cL_law 2313 = .ok (.ifCond .eq 5, 3) := dk_153 0 5 (dk_at dksL_law_92 8 rfl rfl)
theorem dL_law_2316 : decode cL_law 2316 = .ok (.iconst 0, 1) := dk_3 (dk_at dksL_law_92 11 rfl rfl)
theorem dL_law_2317 : decode cL_law 2317 = .ok (.ireturn, 1) := dk_172 (dk_at dksL_law_92 12 rfl rfl)
theorem dL_law_2318 : decode cL_law 2318 = .ok (.iinc 4 4, 3) := dk_132 4 4 (dk_at dksL_law_92 13 rfl rfl)
theorem dL_law_2321 : decode cL_law 2321 = .ok (.goto (-2298), 3) := dk_167 247 6 (dk_at dksL_law_92 16 rfl rfl)
theorem dL_law_2324 : decode cL_law 2324 = .ok (.iconst 1, 1) := dk_4 (dk_at dksL_law_92 19 rfl rfl)
theorem dL_law_2325 : decode cL_law 2325 = .ok (.ireturn, 1) := dk_172 (dk_at dksL_law_92 20 rfl rfl)
