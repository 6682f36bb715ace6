/-! ChoreAssignmentLaw -/
set_option maxRecDepth 100000
def RX0 : String := "ChoreAssignmentLaw"
abbrev cX0_resize : ByteArray := method_3_code
def yX0_resize : MethodName := ⟨RX0, "resize", "(LChoreAssignment;II[J)I"⟩
def dkwX0_resize_0 : List UInt8 := [45, 3, 42, 27, 28, 182, 0, 7, 133, 80, 167, 0, 7, 58, 4, 4, 172, 3, 172]
abbrev dktX0_resize_0 : List UInt8 := dkwX0_resize_0 ++ []
theorem dksX0_resize_0 : cX0_resize.data.toList.drop 0 = dktX0_resize_0 := by decide +kernel
theorem dX0_resize_0 : decode cX0_resize 0 = .ok (.aload_n 3, 1) := dk_45 (dk_at dksX0_resize_0 0 rfl rfl)
theorem dX0_resize_1 : decode cX0_resize 1 = .ok (.iconst 0, 1) := dk_3 (dk_at dksX0_resize_0 1 rfl rfl)
theorem dX0_resize_2 : decode cX0_resize 2 = .ok (.aload_n 0, 1) := dk_42 (dk_at dksX0_resize_0 2 rfl rfl)
theorem dX0_resize_3 : decode cX0_resize 3 = .ok (.iload_n 1, 1) := dk_27 (dk_at dksX0_resize_0 3 rfl rfl)
theorem dX0_resize_4 : decode cX0_resize 4 = .ok (.iload_n 2, 1) := dk_28 (dk_at dksX0_resize_0 4 rfl rfl)
theorem dX0_resize_5 : decode cX0_resize 5 = .ok (.invokevirtual 7, 3) := dk_182 0 7 (dk_at dksX0_resize_0 5 rfl rfl)
theorem dX0_resize_8 : decode cX0_resize 8 = .ok (.i2l, 1) := dk_133 (dk_at dksX0_resize_0 8 rfl rfl)
theorem dX0_resize_9 : decode cX0_resize 9 = .ok (.lastore, 1) := dk_80 (dk_at dksX0_resize_0 9 rfl rfl)
theorem dX0_resize_10 : decode cX0_resize 10 = .ok (.goto 7, 3) := dk_167 0 7 (dk_at dksX0_resize_0 10 rfl rfl)
theorem dX0_resize_13 : decode cX0_resize 13 = .ok (.astore 4, 2) := dk_58 4 (dk_at dksX0_resize_0 13 rfl rfl)
theorem dX0_resize_15 : decode cX0_resize 15 = .ok (.iconst 1, 1) := dk_4 (dk_at dksX0_resize_0 15 rfl rfl)
theorem dX0_resize_16 : decode cX0_resize 16 = .ok (.ireturn, 1) := dk_172 (dk_at dksX0_resize_0 16 rfl rfl)
theorem dX0_resize_17 : decode cX0_resize 17 = .ok (.iconst 0, 1) := dk_3 (dk_at dksX0_resize_0 17 rfl rfl)
theorem dX0_resize_18 : decode cX0_resize 18 = .ok (.ireturn, 1) := dk_172 (dk_at dksX0_resize_0 18 rfl rfl)
abbrev cX0_setCost : ByteArray := method_4_code
def yX0_setCost : MethodName := ⟨RX0, "setCost", "(LChoreAssignment;III[J)I"⟩
def dkwX0_setCost_1 : List UInt8 := [172]
abbrev dktX0_setCost_1 : List UInt8 := dkwX0_setCost_1 ++ []
def dkwX0_setCost_0 : List UInt8 := [25, 4, 3, 42, 27, 28, 29, 182, 0, 15, 133, 80, 167, 0, 11, 58, 5, 4, 172, 58, 5, 5, 172, 3]
abbrev dktX0_setCost_0 : List UInt8 := dkwX0_setCost_0 ++ dktX0_setCost_1
theorem dksX0_setCost_0 : cX0_setCost.data.toList.drop 0 = dktX0_setCost_0 := by decide +kernel
theorem dksX0_setCost_1 : cX0_setCost.data.toList.drop 24 = dktX0_setCost_1 := dk_seg dksX0_setCost_0 24 rfl rfl
theorem dX0_setCost_0 : decode cX0_setCost 0 = .ok (.aload 4, 2) := dk_25 4 (dk_at dksX0_setCost_0 0 rfl rfl)
theorem dX0_setCost_2 : decode cX0_setCost 2 = .ok (.iconst 0, 1) := dk_3 (dk_at dksX0_setCost_0 2 rfl rfl)
theorem dX0_setCost_3 : decode cX0_setCost 3 = .ok (.aload_n 0, 1) := dk_42 (dk_at dksX0_setCost_0 3 rfl rfl)
theorem dX0_setCost_4 : decode cX0_setCost 4 = .ok (.iload_n 1, 1) := dk_27 (dk_at dksX0_setCost_0 4 rfl rfl)
theorem dX0_setCost_5 : decode cX0_setCost 5 = .ok (.iload_n 2, 1) := dk_28 (dk_at dksX0_setCost_0 5 rfl rfl)
theorem dX0_setCost_6 : decode cX0_setCost 6 = .ok (.iload_n 3, 1) := dk_29 (dk_at dksX0_setCost_0 6 rfl rfl)
theorem dX0_setCost_7 : decode cX0_setCost 7 = .ok (.invokevirtual 15, 3) := dk_182 0 15 (dk_at dksX0_setCost_0 7 rfl rfl)
theorem dX0_setCost_10 : decode cX0_setCost 10 = .ok (.i2l, 1) := dk_133 (dk_at dksX0_setCost_0 10 rfl rfl)
theorem dX0_setCost_11 : decode cX0_setCost 11 = .ok (.lastore, 1) := dk_80 (dk_at dksX0_setCost_0 11 rfl rfl)
theorem dX0_setCost_12 : decode cX0_setCost 12 = .ok (.goto 11, 3) := dk_167 0 11 (dk_at dksX0_setCost_0 12 rfl rfl)
theorem dX0_setCost_15 : decode cX0_setCost 15 = .ok (.astore 5, 2) := dk_58 5 (dk_at dksX0_setCost_0 15 rfl rfl)
theorem dX0_setCost_17 : decode cX0_setCost 17 = .ok (.iconst 1, 1) := dk_4 (dk_at dksX0_setCost_0 17 rfl rfl)
theorem dX0_setCost_18 : decode cX0_setCost 18 = .ok (.ireturn, 1) := dk_172 (dk_at dksX0_setCost_0 18 rfl rfl)
theorem dX0_setCost_19 : decode cX0_setCost 19 = .ok (.astore 5, 2) := dk_58 5 (dk_at dksX0_setCost_0 19 rfl rfl)
theorem dX0_setCost_21 : decode cX0_setCost 21 = .ok (.iconst 2, 1) := dk_5 (dk_at dksX0_setCost_0 21 rfl rfl)
theorem dX0_setCost_22 : decode cX0_setCost 22 = .ok (.ireturn, 1) := dk_172 (dk_at dksX0_setCost_0 22 rfl rfl)
theorem dX0_setCost_23 : decode cX0_setCost 23 = .ok (.iconst 0, 1) := dk_3 (dk_at dksX0_setCost_0 23 rfl rfl)
theorem dX0_setCost_24 : decode cX0_setCost 24 = .ok (.ireturn, 1) := dk_172 (dk_at dksX0_setCost_1 0 rfl rfl)
abbrev cX0_setRow : ByteArray := method_5_code
def yX0_setRow : MethodName := ⟨RX0, "setRow", "(LChoreAssignment;IJ[J)I"⟩
def dkwX0_setRow_0 : List UInt8 := [25, 4, 3, 42, 27, 32, 182, 0, 21, 133, 80, 167, 0, 11, 58, 5, 4, 172, 58, 5, 5, 172, 3, 172]
abbrev dktX0_setRow_0 : List UInt8 := dkwX0_setRow_0 ++ []
theorem dksX0_setRow_0 : cX0_setRow.data.toList.drop 0 = dktX0_setRow_0 := by decide +kernel
theorem dX0_setRow_0 : decode cX0_setRow 0 = .ok (.aload 4, 2) := dk_25 4 (dk_at dksX0_setRow_0 0 rfl rfl)
theorem dX0_setRow_2 : decode cX0_setRow 2 = .ok (.iconst 0, 1) := dk_3 (dk_at dksX0_setRow_0 2 rfl rfl)
theorem dX0_setRow_3 : decode cX0_setRow 3 = .ok (.aload_n 0, 1) := dk_42 (dk_at dksX0_setRow_0 3 rfl rfl)
theorem dX0_setRow_4 : decode cX0_setRow 4 = .ok (.iload_n 1, 1) := dk_27 (dk_at dksX0_setRow_0 4 rfl rfl)
theorem dX0_setRow_5 : decode cX0_setRow 5 = .ok (.lload_n 2, 1) := dk_32 (dk_at dksX0_setRow_0 5 rfl rfl)
theorem dX0_setRow_6 : decode cX0_setRow 6 = .ok (.invokevirtual 21, 3) := dk_182 0 21 (dk_at dksX0_setRow_0 6 rfl rfl)
theorem dX0_setRow_9 : decode cX0_setRow 9 = .ok (.i2l, 1) := dk_133 (dk_at dksX0_setRow_0 9 rfl rfl)
theorem dX0_setRow_10 : decode cX0_setRow 10 = .ok (.lastore, 1) := dk_80 (dk_at dksX0_setRow_0 10 rfl rfl)
theorem dX0_setRow_11 : decode cX0_setRow 11 = .ok (.goto 11, 3) := dk_167 0 11 (dk_at dksX0_setRow_0 11 rfl rfl)
theorem dX0_setRow_14 : decode cX0_setRow 14 = .ok (.astore 5, 2) := dk_58 5 (dk_at dksX0_setRow_0 14 rfl rfl)
theorem dX0_setRow_16 : decode cX0_setRow 16 = .ok (.iconst 1, 1) := dk_4 (dk_at dksX0_setRow_0 16 rfl rfl)
theorem dX0_setRow_17 : decode cX0_setRow 17 = .ok (.ireturn, 1) := dk_172 (dk_at dksX0_setRow_0 17 rfl rfl)
theorem dX0_setRow_18 : decode cX0_setRow 18 = .ok (.astore 5, 2) := dk_58 5 (dk_at dksX0_setRow_0 18 rfl rfl)
theorem dX0_setRow_20 : decode cX0_setRow 20 = .ok (.iconst 2, 1) := dk_5 (dk_at dksX0_setRow_0 20 rfl rfl)
theorem dX0_setRow_21 : decode cX0_setRow 21 = .ok (.ireturn, 1) := dk_172 (dk_at dksX0_setRow_0 21 rfl rfl)
theorem dX0_setRow_22 : decode cX0_setRow 22 = .ok (.iconst 0, 1) := dk_3 (dk_at dksX0_setRow_0 22 rfl rfl)
theorem dX0_setRow_23 : decode cX0_setRow 23 = .ok (.ireturn, 1) := dk_172 (dk_at dksX0_setRow_0 23 rfl rfl)
abbrev cX0_fill : ByteArray := method_6_code
def yX0_fill : MethodName := ⟨RX0, "fill", "(LChoreAssignment;II[J)I"⟩
def dkwX0_fill_0 : List UInt8 := [45, 3, 42, 27, 28, 182, 0, 25, 133, 80, 167, 0, 7, 58, 4, 4, 172, 3, 172]
abbrev dktX0_fill_0 : List UInt8 := dkwX0_fill_0 ++ []
theorem dksX0_fill_0 : cX0_fill.data.toList.drop 0 = dktX0_fill_0 := by decide +kernel
theorem dX0_fill_0 : decode cX0_fill 0 = .ok (.aload_n 3, 1) := dk_45 (dk_at dksX0_fill_0 0 rfl rfl)
theorem dX0_fill_1 : decode cX0_fill 1 = .ok (.iconst 0, 1) := dk_3 (dk_at dksX0_fill_0 1 rfl rfl)
theorem dX0_fill_2 : decode cX0_fill 2 = .ok (.aload_n 0, 1) := dk_42 (dk_at dksX0_fill_0 2 rfl rfl)
theorem dX0_fill_3 : decode cX0_fill 3 = .ok (.iload_n 1, 1) := dk_27 (dk_at dksX0_fill_0 3 rfl rfl)
theorem dX0_fill_4 : decode cX0_fill 4 = .ok (.iload_n 2, 1) := dk_28 (dk_at dksX0_fill_0 4 rfl rfl)
theorem dX0_fill_5 : decode cX0_fill 5 = .ok (.invokevirtual 25, 3) := dk_182 0 25 (dk_at dksX0_fill_0 5 rfl rfl)
theorem dX0_fill_8 : decode cX0_fill 8 = .ok (.i2l, 1) := dk_133 (dk_at dksX0_fill_0 8 rfl rfl)
theorem dX0_fill_9 : decode cX0_fill 9 = .ok (.lastore, 1) := dk_80 (dk_at dksX0_fill_0 9 rfl rfl)
theorem dX0_fill_10 : decode cX0_fill 10 = .ok (.goto 7, 3) := dk_167 0 7 (dk_at dksX0_fill_0 10 rfl rfl)
theorem dX0_fill_13 : decode cX0_fill 13 = .ok (.astore 4, 2) := dk_58 4 (dk_at dksX0_fill_0 13 rfl rfl)
theorem dX0_fill_15 : decode cX0_fill 15 = .ok (.iconst 1, 1) := dk_4 (dk_at dksX0_fill_0 15 rfl rfl)
theorem dX0_fill_16 : decode cX0_fill 16 = .ok (.ireturn, 1) := dk_172 (dk_at dksX0_fill_0 16 rfl rfl)
theorem dX0_fill_17 : decode cX0_fill 17 = .ok (.iconst 0, 1) := dk_3 (dk_at dksX0_fill_0 17 rfl rfl)
theorem dX0_fill_18 : decode cX0_fill 18 = .ok (.ireturn, 1) := dk_172 (dk_at dksX0_fill_0 18 rfl rfl)
abbrev cX0_setForbidden : ByteArray := method_7_code
def yX0_setForbidden : MethodName := ⟨RX0, "setForbidden", "(LChoreAssignment;IIZ[J)I"⟩
def dkwX0_setForbidden_0 : List UInt8 := [25, 4, 3, 42, 27, 28, 29, 182, 0, 28, 133, 80, 167, 0, 7, 58, 5, 4, 172, 3, 172]
abbrev dktX0_setForbidden_0 : List UInt8 := dkwX0_setForbidden_0 ++ []
theorem dksX0_setForbidden_0 : cX0_setForbidden.data.toList.drop 0 = dktX0_setForbidden_0 := by decide +kernel
theorem dX0_setForbidden_0 : decode cX0_setForbidden 0 = .ok (.aload 4, 2) := dk_25 4 (dk_at dksX0_setForbidden_0 0 rfl rfl)
theorem dX0_setForbidden_2 : decode cX0_setForbidden 2 = .ok (.iconst 0, 1) := dk_3 (dk_at dksX0_setForbidden_0 2 rfl rfl)
theorem dX0_setForbidden_3 : decode cX0_setForbidden 3 = .ok (.aload_n 0, 1) := dk_42 (dk_at dksX0_setForbidden_0 3 rfl rfl)
theorem dX0_setForbidden_4 : decode cX0_setForbidden 4 = .ok (.iload_n 1, 1) := dk_27 (dk_at dksX0_setForbidden_0 4 rfl rfl)
theorem dX0_setForbidden_5 : decode cX0_setForbidden 5 = .ok (.iload_n 2, 1) := dk_28 (dk_at dksX0_setForbidden_0 5 rfl rfl)
theorem dX0_setForbidden_6 : decode cX0_setForbidden 6 = .ok (.iload_n 3, 1) := dk_29 (dk_at dksX0_setForbidden_0 6 rfl rfl)
theorem dX0_setForbidden_7 : decode cX0_setForbidden 7 = .ok (.invokevirtual 28, 3) := dk_182 0 28 (dk_at dksX0_setForbidden_0 7 rfl rfl)
theorem dX0_setForbidden_10 : decode cX0_setForbidden 10 = .ok (.i2l, 1) := dk_133 (dk_at dksX0_setForbidden_0 10 rfl rfl)
theorem dX0_setForbidden_11 : decode cX0_setForbidden 11 = .ok (.lastore, 1) := dk_80 (dk_at dksX0_setForbidden_0 11 rfl rfl)
theorem dX0_setForbidden_12 : decode cX0_setForbidden 12 = .ok (.goto 7, 3) := dk_167 0 7 (dk_at dksX0_setForbidden_0 12 rfl rfl)
theorem dX0_setForbidden_15 : decode cX0_setForbidden 15 = .ok (.astore 5, 2) := dk_58 5 (dk_at dksX0_setForbidden_0 15 rfl rfl)
theorem dX0_setForbidden_17 : decode cX0_setForbidden 17 = .ok (.iconst 1, 1) := dk_4 (dk_at dksX0_setForbidden_0 17 rfl rfl)
theorem dX0_setForbidden_18 : decode cX0_setForbidden 18 = .ok (.ireturn, 1) := dk_172 (dk_at dksX0_setForbidden_0 18 rfl rfl)
theorem dX0_setForbidden_19 : decode cX0_setForbidden 19 = .ok (.iconst 0, 1) := dk_3 (dk_at dksX0_setForbidden_0 19 rfl rfl)
theorem dX0_setForbidden_20 : decode cX0_setForbidden 20 = .ok (.ireturn, 1) := dk_172 (dk_at dksX0_setForbidden_0 20 rfl rfl)
abbrev cX0_costAt : ByteArray := method_8_code
def yX0_costAt : MethodName := ⟨RX0, "costAt", "(LChoreAssignment;II[J)I"⟩
def dkwX0_costAt_0 : List UInt8 := [45, 3, 42, 27, 28, 182, 0, 32, 133, 80, 167, 0, 7, 58, 4, 4, 172, 3, 172]
abbrev dktX0_costAt_0 : List UInt8 := dkwX0_costAt_0 ++ []
theorem dksX0_costAt_0 : cX0_costAt.data.toList.drop 0 = dktX0_costAt_0 := by decide +kernel
theorem dX0_costAt_0 : decode cX0_costAt 0 = .ok (.aload_n 3, 1) := dk_45 (dk_at dksX0_costAt_0 0 rfl rfl)
theorem dX0_costAt_1 : decode cX0_costAt 1 = .ok (.iconst 0, 1) := dk_3 (dk_at dksX0_costAt_0 1 rfl rfl)
theorem dX0_costAt_2 : decode cX0_costAt 2 = .ok (.aload_n 0, 1) := dk_42 (dk_at dksX0_costAt_0 2 rfl rfl)
theorem dX0_costAt_3 : decode cX0_costAt 3 = .ok (.iload_n 1, 1) := dk_27 (dk_at dksX0_costAt_0 3 rfl rfl)
theorem dX0_costAt_4 : decode cX0_costAt 4 = .ok (.iload_n 2, 1) := dk_28 (dk_at dksX0_costAt_0 4 rfl rfl)
theorem dX0_costAt_5 : decode cX0_costAt 5 = .ok (.invokevirtual 32, 3) := dk_182 0 32 (dk_at dksX0_costAt_0 5 rfl rfl)
theorem dX0_costAt_8 : decode cX0_costAt 8 = .ok (.i2l, 1) := dk_133 (dk_at dksX0_costAt_0 8 rfl rfl)
theorem dX0_costAt_9 : decode cX0_costAt 9 = .ok (.lastore, 1) := dk_80 (dk_at dksX0_costAt_0 9 rfl rfl)
theorem dX0_costAt_10 : decode cX0_costAt 10 = .ok (.goto 7, 3) := dk_167 0 7 (dk_at dksX0_costAt_0 10 rfl rfl)
theorem dX0_costAt_13 : decode cX0_costAt 13 = .ok (.astore 4, 2) := dk_58 4 (dk_at dksX0_costAt_0 13 rfl rfl)
theorem dX0_costAt_15 : decode cX0_costAt 15 = .ok (.iconst 1, 1) := dk_4 (dk_at dksX0_costAt_0 15 rfl rfl)
theorem dX0_costAt_16 : decode cX0_costAt 16 = .ok (.ireturn, 1) := dk_172 (dk_at dksX0_costAt_0 16 rfl rfl)
theorem dX0_costAt_17 : decode cX0_costAt 17 = .ok (.iconst 0, 1) := dk_3 (dk_at dksX0_costAt_0 17 rfl rfl)
theorem dX0_costAt_18 : decode cX0_costAt 18 = .ok (.ireturn, 1) := dk_172 (dk_at dksX0_costAt_0 18 rfl rfl)
abbrev cX0_addToRow : ByteArray := method_9_code
def yX0_addToRow : MethodName := ⟨RX0, "addToRow", "(LChoreAssignment;II[J)I"⟩
def dkwX0_addToRow_1 : List UInt8 := [172, 3, 172]
abbrev dktX0_addToRow_1 : List UInt8 := dkwX0_addToRow_1 ++ []
def dkwX0_addToRow_0 : List UInt8 := [45, 3, 42, 27, 28, 182, 0, 35, 133, 80, 167, 0, 15, 58, 4, 4, 172, 58, 4, 5, 172, 58, 4, 6]
abbrev dktX0_addToRow_0 : List UInt8 := dkwX0_addToRow_0 ++ dktX0_addToRow_1
theorem dksX0_addToRow_0 : cX0_addToRow.data.toList.drop 0 = dktX0_addToRow_0 := by decide +kernel
theorem dksX0_addToRow_1 : cX0_addToRow.data.toList.drop 24 = dktX0_addToRow_1 := dk_seg dksX0_addToRow_0 24 rfl rfl
theorem dX0_addToRow_0 : decode cX0_addToRow 0 = .ok (.aload_n 3, 1) := dk_45 (dk_at dksX0_addToRow_0 0 rfl rfl)
theorem dX0_addToRow_1 : decode cX0_addToRow 1 = .ok (.iconst 0, 1) := dk_3 (dk_at dksX0_addToRow_0 1 rfl rfl)
theorem dX0_addToRow_2 : decode cX0_addToRow 2 = .ok (.aload_n 0, 1) := dk_42 (dk_at dksX0_addToRow_0 2 rfl rfl)
theorem dX0_addToRow_3 : decode cX0_addToRow 3 = .ok (.iload_n 1, 1) := dk_27 (dk_at dksX0_addToRow_0 3 rfl rfl)
theorem dX0_addToRow_4 : decode cX0_addToRow 4 = .ok (.iload_n 2, 1) := dk_28 (dk_at dksX0_addToRow_0 4 rfl rfl)
theorem dX0_addToRow_5 : decode cX0_addToRow 5 = .ok (.invokevirtual 35, 3) := dk_182 0 35 (dk_at dksX0_addToRow_0 5 rfl rfl)
theorem dX0_addToRow_8 : decode cX0_addToRow 8 = .ok (.i2l, 1) := dk_133 (dk_at dksX0_addToRow_0 8 rfl rfl)
theorem dX0_addToRow_9 : decode cX0_addToRow 9 = .ok (.lastore, 1) := dk_80 (dk_at dksX0_addToRow_0 9 rfl rfl)
theorem dX0_addToRow_10 : decode cX0_addToRow 10 = .ok (.goto 15, 3) := dk_167 0 15 (dk_at dksX0_addToRow_0 10 rfl rfl)
theorem dX0_addToRow_13 : decode cX0_addToRow 13 = .ok (.astore 4, 2) := dk_58 4 (dk_at dksX0_addToRow_0 13 rfl rfl)
theorem dX0_addToRow_15 : decode cX0_addToRow 15 = .ok (.iconst 1, 1) := dk_4 (dk_at dksX0_addToRow_0 15 rfl rfl)
theorem dX0_addToRow_16 : decode cX0_addToRow 16 = .ok (.ireturn, 1) := dk_172 (dk_at dksX0_addToRow_0 16 rfl rfl)
theorem dX0_addToRow_17 : decode cX0_addToRow 17 = .ok (.astore 4, 2) := dk_58 4 (dk_at dksX0_addToRow_0 17 rfl rfl)
theorem dX0_addToRow_19 : decode cX0_addToRow 19 = .ok (.iconst 2, 1) := dk_5 (dk_at dksX0_addToRow_0 19 rfl rfl)
theorem dX0_addToRow_20 : decode cX0_addToRow 20 = .ok (.ireturn, 1) := dk_172 (dk_at dksX0_addToRow_0 20 rfl rfl)
theorem dX0_addToRow_21 : decode cX0_addToRow 21 = .ok (.astore 4, 2) := dk_58 4 (dk_at dksX0_addToRow_0 21 rfl rfl)
theorem dX0_addToRow_23 : decode cX0_addToRow 23 = .ok (.iconst 3, 1) := dk_6 (dk_at dksX0_addToRow_0 23 rfl rfl)
theorem dX0_addToRow_24 : decode cX0_addToRow 24 = .ok (.ireturn, 1) := dk_172 (dk_at dksX0_addToRow_1 0 rfl rfl)
theorem dX0_addToRow_25 : decode cX0_addToRow 25 = .ok (.iconst 0, 1) := dk_3 (dk_at dksX0_addToRow_1 1 rfl rfl)
theorem dX0_addToRow_26 : decode cX0_addToRow 26 = .ok (.ireturn, 1) := dk_172 (dk_at dksX0_addToRow_1 2 rfl rfl)
abbrev cX0_addToColumn : ByteArray := method_10_code
def yX0_addToColumn : MethodName := ⟨RX0, "addToColumn", "(LChoreAssignment;II[J)I"⟩
def dkwX0_addToColumn_1 : List UInt8 := [172, 3, 172]
abbrev dktX0_addToColumn_1 : List UInt8 := dkwX0_addToColumn_1 ++ []
def dkwX0_addToColumn_0 : List UInt8 := [45, 3, 42, 27, 28, 182, 0, 40, 133, 80, 167, 0, 15, 58, 4, 4, 172, 58, 4, 5, 172, 58, 4, 6]
abbrev dktX0_addToColumn_0 : List UInt8 := dkwX0_addToColumn_0 ++ dktX0_addToColumn_1
theorem dksX0_addToColumn_0 : cX0_addToColumn.data.toList.drop 0 = dktX0_addToColumn_0 := by decide +kernel
theorem dksX0_addToColumn_1 : cX0_addToColumn.data.toList.drop 24 = dktX0_addToColumn_1 := dk_seg dksX0_addToColumn_0 24 rfl rfl
theorem dX0_addToColumn_0 : decode cX0_addToColumn 0 = .ok (.aload_n 3, 1) := dk_45 (dk_at dksX0_addToColumn_0 0 rfl rfl)
theorem dX0_addToColumn_1 : decode cX0_addToColumn 1 = .ok (.iconst 0, 1) := dk_3 (dk_at dksX0_addToColumn_0 1 rfl rfl)
theorem dX0_addToColumn_2 : decode cX0_addToColumn 2 = .ok (.aload_n 0, 1) := dk_42 (dk_at dksX0_addToColumn_0 2 rfl rfl)
theorem dX0_addToColumn_3 : decode cX0_addToColumn 3 = .ok (.iload_n 1, 1) := dk_27 (dk_at dksX0_addToColumn_0 3 rfl rfl)
theorem dX0_addToColumn_4 : decode cX0_addToColumn 4 = .ok (.iload_n 2, 1) := dk_28 (dk_at dksX0_addToColumn_0 4 rfl rfl)
theorem dX0_addToColumn_5 : decode cX0_addToColumn 5 = .ok (.invokevirtual 40, 3) := dk_182 0 40 (dk_at dksX0_addToColumn_0 5 rfl rfl)
theorem dX0_addToColumn_8 : decode cX0_addToColumn 8 = .ok (.i2l, 1) := dk_133 (dk_at dksX0_addToColumn_0 8 rfl rfl)
theorem dX0_addToColumn_9 : decode cX0_addToColumn 9 = .ok (.lastore, 1) := dk_80 (dk_at dksX0_addToColumn_0 9 rfl rfl)
theorem dX0_addToColumn_10 : decode cX0_addToColumn 10 = .ok (.goto 15, 3) := dk_167 0 15 (dk_at dksX0_addToColumn_0 10 rfl rfl)
theorem dX0_addToColumn_13 : decode cX0_addToColumn 13 = .ok (.astore 4, 2) := dk_58 4 (dk_at dksX0_addToColumn_0 13 rfl rfl)
theorem dX0_addToColumn_15 : decode cX0_addToColumn 15 = .ok (.iconst 1, 1) := dk_4 (dk_at dksX0_addToColumn_0 15 rfl rfl)
theorem dX0_addToColumn_16 : decode cX0_addToColumn 16 = .ok (.ireturn, 1) := dk_172 (dk_at dksX0_addToColumn_0 16 rfl rfl)
theorem dX0_addToColumn_17 : decode cX0_addToColumn 17 = .ok (.astore 4, 2) := dk_58 4 (dk_at dksX0_addToColumn_0 17 rfl rfl)
theorem dX0_addToColumn_19 : decode cX0_addToColumn 19 = .ok (.iconst 2, 1) := dk_5 (dk_at dksX0_addToColumn_0 19 rfl rfl)
theorem dX0_addToColumn_20 : decode cX0_addToColumn 20 = .ok (.ireturn, 1) := dk_172 (dk_at dksX0_addToColumn_0 20 rfl rfl)
theorem dX0_addToColumn_21 : decode cX0_addToColumn 21 = .ok (.astore 4, 2) := dk_58 4 (dk_at dksX0_addToColumn_0 21 rfl rfl)
theorem dX0_addToColumn_23 : decode cX0_addToColumn 23 = .ok (.iconst 3, 1) := dk_6 (dk_at dksX0_addToColumn_0 23 rfl rfl)
theorem dX0_addToColumn_24 : decode cX0_addToColumn 24 = .ok (.ireturn, 1) := dk_172 (dk_at dksX0_addToColumn_1 0 rfl rfl)
theorem dX0_addToColumn_25 : decode cX0_addToColumn 25 = .ok (.iconst 0, 1) := dk_3 (dk_at dksX0_addToColumn_1 1 rfl rfl)
theorem dX0_addToColumn_26 : decode cX0_addToColumn 26 = .ok (.ireturn, 1) := dk_172 (dk_at dksX0_addToColumn_1 2 rfl rfl)
abbrev cX0_swapRows : ByteArray := method_11_code
def yX0_swapRows : MethodName := ⟨RX0, "swapRows", "(LChoreAssignment;II[J)I"⟩
def dkwX0_swapRows_0 : List UInt8 := [45, 3, 42, 27, 28, 182, 0, 43, 133, 80, 167, 0, 7, 58, 4, 4, 172, 3, 172]
abbrev dktX0_swapRows_0 : List UInt8 := dkwX0_swapRows_0 ++ []
theorem dksX0_swapRows_0 : cX0_swapRows.data.toList.drop 0 = dktX0_swapRows_0 := by decide +kernel
theorem dX0_swapRows_0 : decode cX0_swapRows 0 = .ok (.aload_n 3, 1) := dk_45 (dk_at dksX0_swapRows_0 0 rfl rfl)
theorem dX0_swapRows_1 : decode cX0_swapRows 1 = .ok (.iconst 0, 1) := dk_3 (dk_at dksX0_swapRows_0 1 rfl rfl)
theorem dX0_swapRows_2 : decode cX0_swapRows 2 = .ok (.aload_n 0, 1) := dk_42 (dk_at dksX0_swapRows_0 2 rfl rfl)
theorem dX0_swapRows_3 : decode cX0_swapRows 3 = .ok (.iload_n 1, 1) := dk_27 (dk_at dksX0_swapRows_0 3 rfl rfl)
theorem dX0_swapRows_4 : decode cX0_swapRows 4 = .ok (.iload_n 2, 1) := dk_28 (dk_at dksX0_swapRows_0 4 rfl rfl)
theorem dX0_swapRows_5 : decode cX0_swapRows 5 = .ok (.invokevirtual 43, 3) := dk_182 0 43 (dk_at dksX0_swapRows_0 5 rfl rfl)
theorem dX0_swapRows_8 : decode cX0_swapRows 8 = .ok (.i2l, 1) := dk_133 (dk_at dksX0_swapRows_0 8 rfl rfl)
theorem dX0_swapRows_9 : decode cX0_swapRows 9 = .ok (.lastore, 1) := dk_80 (dk_at dksX0_swapRows_0 9 rfl rfl)
theorem dX0_swapRows_10 : decode cX0_swapRows 10 = .ok (.goto 7, 3) := dk_167 0 7 (dk_at dksX0_swapRows_0 10 rfl rfl)
theorem dX0_swapRows_13 : decode cX0_swapRows 13 = .ok (.astore 4, 2) := dk_58 4 (dk_at dksX0_swapRows_0 13 rfl rfl)
theorem dX0_swapRows_15 : decode cX0_swapRows 15 = .ok (.iconst 1, 1) := dk_4 (dk_at dksX0_swapRows_0 15 rfl rfl)
theorem dX0_swapRows_16 : decode cX0_swapRows 16 = .ok (.ireturn, 1) := dk_172 (dk_at dksX0_swapRows_0 16 rfl rfl)
theorem dX0_swapRows_17 : decode cX0_swapRows 17 = .ok (.iconst 0, 1) := dk_3 (dk_at dksX0_swapRows_0 17 rfl rfl)
theorem dX0_swapRows_18 : decode cX0_swapRows 18 = .ok (.ireturn, 1) := dk_172 (dk_at dksX0_swapRows_0 18 rfl rfl)
abbrev cX0_swapColumns : ByteArray := method_12_code
def yX0_swapColumns : MethodName := ⟨RX0, "swapColumns", "(LChoreAssignment;II[J)I"⟩
def dkwX0_swapColumns_0 : List UInt8 := [45, 3, 42, 27, 28, 182, 0, 46, 133, 80, 167, 0, 7, 58, 4, 4, 172, 3, 172]
abbrev dktX0_swapColumns_0 : List UInt8 := dkwX0_swapColumns_0 ++ []
theorem dksX0_swapColumns_0 : cX0_swapColumns.data.toList.drop 0 = dktX0_swapColumns_0 := by decide +kernel
theorem dX0_swapColumns_0 : decode cX0_swapColumns 0 = .ok (.aload_n 3, 1) := dk_45 (dk_at dksX0_swapColumns_0 0 rfl rfl)
theorem dX0_swapColumns_1 : decode cX0_swapColumns 1 = .ok (.iconst 0, 1) := dk_3 (dk_at dksX0_swapColumns_0 1 rfl rfl)
theorem dX0_swapColumns_2 : decode cX0_swapColumns 2 = .ok (.aload_n 0, 1) := dk_42 (dk_at dksX0_swapColumns_0 2 rfl rfl)
theorem dX0_swapColumns_3 : decode cX0_swapColumns 3 = .ok (.iload_n 1, 1) := dk_27 (dk_at dksX0_swapColumns_0 3 rfl rfl)
theorem dX0_swapColumns_4 : decode cX0_swapColumns 4 = .ok (.iload_n 2, 1) := dk_28 (dk_at dksX0_swapColumns_0 4 rfl rfl)
theorem dX0_swapColumns_5 : decode cX0_swapColumns 5 = .ok (.invokevirtual 46, 3) := dk_182 0 46 (dk_at dksX0_swapColumns_0 5 rfl rfl)
theorem dX0_swapColumns_8 : decode cX0_swapColumns 8 = .ok (.i2l, 1) := dk_133 (dk_at dksX0_swapColumns_0 8 rfl rfl)
theorem dX0_swapColumns_9 : decode cX0_swapColumns 9 = .ok (.lastore, 1) := dk_80 (dk_at dksX0_swapColumns_0 9 rfl rfl)
theorem dX0_swapColumns_10 : decode cX0_swapColumns 10 = .ok (.goto 7, 3) := dk_167 0 7 (dk_at dksX0_swapColumns_0 10 rfl rfl)
theorem dX0_swapColumns_13 : decode cX0_swapColumns 13 = .ok (.astore 4, 2) := dk_58 4 (dk_at dksX0_swapColumns_0 13 rfl rfl)
theorem dX0_swapColumns_15 : decode cX0_swapColumns 15 = .ok (.iconst 1, 1) := dk_4 (dk_at dksX0_swapColumns_0 15 rfl rfl)
theorem dX0_swapColumns_16 : decode cX0_swapColumns 16 = .ok (.ireturn, 1) := dk_172 (dk_at dksX0_swapColumns_0 16 rfl rfl)
theorem dX0_swapColumns_17 : decode cX0_swapColumns 17 = .ok (.iconst 0, 1) := dk_3 (dk_at dksX0_swapColumns_0 17 rfl rfl)
theorem dX0_swapColumns_18 : decode cX0_swapColumns 18 = .ok (.ireturn, 1) := dk_172 (dk_at dksX0_swapColumns_0 18 rfl rfl)
abbrev cX0_transpose : ByteArray := method_13_code
def yX0_transpose : MethodName := ⟨RX0, "transpose", "(LChoreAssignment;[J)I"⟩
def dkwX0_transpose_0 : List UInt8 := [43, 3, 42, 182, 0, 49, 133, 80, 167, 0, 6, 77, 4, 172, 3, 172]
abbrev dktX0_transpose_0 : List UInt8 := dkwX0_transpose_0 ++ []
theorem dksX0_transpose_0 : cX0_transpose.data.toList.drop 0 = dktX0_transpose_0 := by decide +kernel
theorem dX0_transpose_0 : decode cX0_transpose 0 = .ok (.aload_n 1, 1) := dk_43 (dk_at dksX0_transpose_0 0 rfl rfl)
theorem dX0_transpose_1 : decode cX0_transpose 1 = .ok (.iconst 0, 1) := dk_3 (dk_at dksX0_transpose_0 1 rfl rfl)
theorem dX0_transpose_2 : decode cX0_transpose 2 = .ok (.aload_n 0, 1) := dk_42 (dk_at dksX0_transpose_0 2 rfl rfl)
theorem dX0_transpose_3 : decode cX0_transpose 3 = .ok (.invokevirtual 49, 3) := dk_182 0 49 (dk_at dksX0_transpose_0 3 rfl rfl)
theorem dX0_transpose_6 : decode cX0_transpose 6 = .ok (.i2l, 1) := dk_133 (dk_at dksX0_transpose_0 6 rfl rfl)
theorem dX0_transpose_7 : decode cX0_transpose 7 = .ok (.lastore, 1) := dk_80 (dk_at dksX0_transpose_0 7 rfl rfl)
theorem dX0_transpose_8 : decode cX0_transpose 8 = .ok (.goto 6, 3) := dk_167 0 6 (dk_at dksX0_transpose_0 8 rfl rfl)
theorem dX0_transpose_11 : decode cX0_transpose 11 = .ok (.astore_n 2, 1) := dk_77 (dk_at dksX0_transpose_0 11 rfl rfl)
theorem dX0_transpose_12 : decode cX0_transpose 12 = .ok (.iconst 1, 1) := dk_4 (dk_at dksX0_transpose_0 12 rfl rfl)
theorem dX0_transpose_13 : decode cX0_transpose 13 = .ok (.ireturn, 1) := dk_172 (dk_at dksX0_transpose_0 13 rfl rfl)
theorem dX0_transpose_14 : decode cX0_transpose 14 = .ok (.iconst 0, 1) := dk_3 (dk_at dksX0_transpose_0 14 rfl rfl)
theorem dX0_transpose_15 : decode cX0_transpose 15 = .ok (.ireturn, 1) := dk_172 (dk_at dksX0_transpose_0 15 rfl rfl)
abbrev cX0_assigned : ByteArray := method_14_code
def yX0_assigned : MethodName := ⟨RX0, "assigned", "(LChoreAssignment;I[J)I"⟩
def dkwX0_assigned_0 : List UInt8 := [44, 3, 42, 27, 182, 0, 53, 133, 80, 167, 0, 6, 78, 4, 172, 3, 172]
abbrev dktX0_assigned_0 : List UInt8 := dkwX0_assigned_0 ++ []
theorem dksX0_assigned_0 : cX0_assigned.data.toList.drop 0 = dktX0_assigned_0 := by decide +kernel
theorem dX0_assigned_0 : decode cX0_assigned 0 = .ok (.aload_n 2, 1) := dk_44 (dk_at dksX0_assigned_0 0 rfl rfl)
theorem dX0_assigned_1 : decode cX0_assigned 1 = .ok (.iconst 0, 1) := dk_3 (dk_at dksX0_assigned_0 1 rfl rfl)
theorem dX0_assigned_2 : decode cX0_assigned 2 = .ok (.aload_n 0, 1) := dk_42 (dk_at dksX0_assigned_0 2 rfl rfl)
theorem dX0_assigned_3 : decode cX0_assigned 3 = .ok (.iload_n 1, 1) := dk_27 (dk_at dksX0_assigned_0 3 rfl rfl)
theorem dX0_assigned_4 : decode cX0_assigned 4 = .ok (.invokevirtual 53, 3) := dk_182 0 53 (dk_at dksX0_assigned_0 4 rfl rfl)
theorem dX0_assigned_7 : decode cX0_assigned 7 = .ok (.i2l, 1) := dk_133 (dk_at dksX0_assigned_0 7 rfl rfl)
theorem dX0_assigned_8 : decode cX0_assigned 8 = .ok (.lastore, 1) := dk_80 (dk_at dksX0_assigned_0 8 rfl rfl)
theorem dX0_assigned_9 : decode cX0_assigned 9 = .ok (.goto 6, 3) := dk_167 0 6 (dk_at dksX0_assigned_0 9 rfl rfl)
theorem dX0_assigned_12 : decode cX0_assigned 12 = .ok (.astore_n 3, 1) := dk_78 (dk_at dksX0_assigned_0 12 rfl rfl)
theorem dX0_assigned_13 : decode cX0_assigned 13 = .ok (.iconst 1, 1) := dk_4 (dk_at dksX0_assigned_0 13 rfl rfl)
theorem dX0_assigned_14 : decode cX0_assigned 14 = .ok (.ireturn, 1) := dk_172 (dk_at dksX0_assigned_0 14 rfl rfl)
theorem dX0_assigned_15 : decode cX0_assigned 15 = .ok (.iconst 0, 1) := dk_3 (dk_at dksX0_assigned_0 15 rfl rfl)
theorem dX0_assigned_16 : decode cX0_assigned 16 = .ok (.ireturn, 1) := dk_172 (dk_at dksX0_assigned_0 16 rfl rfl)
abbrev cX0_rowPotential : ByteArray := method_15_code
def yX0_rowPotential : MethodName := ⟨RX0, "rowPotential", "(LChoreAssignment;I[J)I"⟩
def dkwX0_rowPotential_0 : List UInt8 := [44, 3, 42, 27, 182, 0, 57, 133, 80, 167, 0, 6, 78, 4, 172, 3, 172]
abbrev dktX0_rowPotential_0 : List UInt8 := dkwX0_rowPotential_0 ++ []
theorem dksX0_rowPotential_0 : cX0_rowPotential.data.toList.drop 0 = dktX0_rowPotential_0 := by decide +kernel
theorem dX0_rowPotential_0 : decode cX0_rowPotential 0 = .ok (.aload_n 2, 1) := dk_44 (dk_at dksX0_rowPotential_0 0 rfl rfl)
theorem dX0_rowPotential_1 : decode cX0_rowPotential 1 = .ok (.iconst 0, 1) := dk_3 (dk_at dksX0_rowPotential_0 1 rfl rfl)
theorem dX0_rowPotential_2 : decode cX0_rowPotential 2 = .ok (.aload_n 0, 1) := dk_42 (dk_at dksX0_rowPotential_0 2 rfl rfl)
theorem dX0_rowPotential_3 : decode cX0_rowPotential 3 = .ok (.iload_n 1, 1) := dk_27 (dk_at dksX0_rowPotential_0 3 rfl rfl)
theorem dX0_rowPotential_4 : decode cX0_rowPotential 4 = .ok (.invokevirtual 57, 3) := dk_182 0 57 (dk_at dksX0_rowPotential_0 4 rfl rfl)
theorem dX0_rowPotential_7 : decode cX0_rowPotential 7 = .ok (.i2l, 1) := dk_133 (dk_at dksX0_rowPotential_0 7 rfl rfl)
theorem dX0_rowPotential_8 : decode cX0_rowPotential 8 = .ok (.lastore, 1) := dk_80 (dk_at dksX0_rowPotential_0 8 rfl rfl)
theorem dX0_rowPotential_9 : decode cX0_rowPotential 9 = .ok (.goto 6, 3) := dk_167 0 6 (dk_at dksX0_rowPotential_0 9 rfl rfl)
theorem dX0_rowPotential_12 : decode cX0_rowPotential 12 = .ok (.astore_n 3, 1) := dk_78 (dk_at dksX0_rowPotential_0 12 rfl rfl)
theorem dX0_rowPotential_13 : decode cX0_rowPotential 13 = .ok (.iconst 1, 1) := dk_4 (dk_at dksX0_rowPotential_0 13 rfl rfl)
theorem dX0_rowPotential_14 : decode cX0_rowPotential 14 = .ok (.ireturn, 1) := dk_172 (dk_at dksX0_rowPotential_0 14 rfl rfl)
theorem dX0_rowPotential_15 : decode cX0_rowPotential 15 = .ok (.iconst 0, 1) := dk_3 (dk_at dksX0_rowPotential_0 15 rfl rfl)
theorem dX0_rowPotential_16 : decode cX0_rowPotential 16 = .ok (.ireturn, 1) := dk_172 (dk_at dksX0_rowPotential_0 16 rfl rfl)
abbrev cX0_columnPotential : ByteArray := method_16_code
def yX0_columnPotential : MethodName := ⟨RX0, "columnPotential", "(LChoreAssignment;I[J)I"⟩
def dkwX0_columnPotential_0 : List UInt8 := [44, 3, 42, 27, 182, 0, 60, 133, 80, 167, 0, 6, 78, 4, 172, 3, 172]
abbrev dktX0_columnPotential_0 : List UInt8 := dkwX0_columnPotential_0 ++ []
theorem dksX0_columnPotential_0 : cX0_columnPotential.data.toList.drop 0 = dktX0_columnPotential_0 := by decide +kernel
theorem dX0_columnPotential_0 : decode cX0_columnPotential 0 = .ok (.aload_n 2, 1) := dk_44 (dk_at dksX0_columnPotential_0 0 rfl rfl)
theorem dX0_columnPotential_1 : decode cX0_columnPotential 1 = .ok (.iconst 0, 1) := dk_3 (dk_at dksX0_columnPotential_0 1 rfl rfl)
theorem dX0_columnPotential_2 : decode cX0_columnPotential 2 = .ok (.aload_n 0, 1) := dk_42 (dk_at dksX0_columnPotential_0 2 rfl rfl)
theorem dX0_columnPotential_3 : decode cX0_columnPotential 3 = .ok (.iload_n 1, 1) := dk_27 (dk_at dksX0_columnPotential_0 3 rfl rfl)
theorem dX0_columnPotential_4 : decode cX0_columnPotential 4 = .ok (.invokevirtual 60, 3) := dk_182 0 60 (dk_at dksX0_columnPotential_0 4 rfl rfl)
theorem dX0_columnPotential_7 : decode cX0_columnPotential 7 = .ok (.i2l, 1) := dk_133 (dk_at dksX0_columnPotential_0 7 rfl rfl)
theorem dX0_columnPotential_8 : decode cX0_columnPotential 8 = .ok (.lastore, 1) := dk_80 (dk_at dksX0_columnPotential_0 8 rfl rfl)
theorem dX0_columnPotential_9 : decode cX0_columnPotential 9 = .ok (.goto 6, 3) := dk_167 0 6 (dk_at dksX0_columnPotential_0 9 rfl rfl)
theorem dX0_columnPotential_12 : decode cX0_columnPotential 12 = .ok (.astore_n 3, 1) := dk_78 (dk_at dksX0_columnPotential_0 12 rfl rfl)
theorem dX0_columnPotential_13 : decode cX0_columnPotential 13 = .ok (.iconst 1, 1) := dk_4 (dk_at dksX0_columnPotential_0 13 rfl rfl)
theorem dX0_columnPotential_14 : decode cX0_columnPotential 14 = .ok (.ireturn, 1) := dk_172 (dk_at dksX0_columnPotential_0 14 rfl rfl)
theorem dX0_columnPotential_15 : decode cX0_columnPotential 15 = .ok (.iconst 0, 1) := dk_3 (dk_at dksX0_columnPotential_0 15 rfl rfl)
theorem dX0_columnPotential_16 : decode cX0_columnPotential 16 = .ok (.ireturn, 1) := dk_172 (dk_at dksX0_columnPotential_0 16 rfl rfl)
abbrev cX0_reducedCost : ByteArray := method_17_code
def yX0_reducedCost : MethodName := ⟨RX0, "reducedCost", "(LChoreAssignment;II[J)I"⟩
def dkwX0_reducedCost_0 : List UInt8 := [45, 3, 42, 27, 28, 182, 0, 63, 133, 80, 167, 0, 7, 58, 4, 4, 172, 3, 172]
abbrev dktX0_reducedCost_0 : List UInt8 := dkwX0_reducedCost_0 ++ []
theorem dksX0_reducedCost_0 : cX0_reducedCost.data.toList.drop 0 = dktX0_reducedCost_0 := by decide +kernel
theorem dX0_reducedCost_0 : decode cX0_reducedCost 0 = .ok (.aload_n 3, 1) := dk_45 (dk_at dksX0_reducedCost_0 0 rfl rfl)
theorem dX0_reducedCost_1 : decode cX0_reducedCost 1 = .ok (.iconst 0, 1) := dk_3 (dk_at dksX0_reducedCost_0 1 rfl rfl)
theorem dX0_reducedCost_2 : decode cX0_reducedCost 2 = .ok (.aload_n 0, 1) := dk_42 (dk_at dksX0_reducedCost_0 2 rfl rfl)
theorem dX0_reducedCost_3 : decode cX0_reducedCost 3 = .ok (.iload_n 1, 1) := dk_27 (dk_at dksX0_reducedCost_0 3 rfl rfl)
theorem dX0_reducedCost_4 : decode cX0_reducedCost 4 = .ok (.iload_n 2, 1) := dk_28 (dk_at dksX0_reducedCost_0 4 rfl rfl)
theorem dX0_reducedCost_5 : decode cX0_reducedCost 5 = .ok (.invokevirtual 63, 3) := dk_182 0 63 (dk_at dksX0_reducedCost_0 5 rfl rfl)
theorem dX0_reducedCost_8 : decode cX0_reducedCost 8 = .ok (.i2l, 1) := dk_133 (dk_at dksX0_reducedCost_0 8 rfl rfl)
theorem dX0_reducedCost_9 : decode cX0_reducedCost 9 = .ok (.lastore, 1) := dk_80 (dk_at dksX0_reducedCost_0 9 rfl rfl)
theorem dX0_reducedCost_10 : decode cX0_reducedCost 10 = .ok (.goto 7, 3) := dk_167 0 7 (dk_at dksX0_reducedCost_0 10 rfl rfl)
theorem dX0_reducedCost_13 : decode cX0_reducedCost 13 = .ok (.astore 4, 2) := dk_58 4 (dk_at dksX0_reducedCost_0 13 rfl rfl)
theorem dX0_reducedCost_15 : decode cX0_reducedCost 15 = .ok (.iconst 1, 1) := dk_4 (dk_at dksX0_reducedCost_0 15 rfl rfl)
theorem dX0_reducedCost_16 : decode cX0_reducedCost 16 = .ok (.ireturn, 1) := dk_172 (dk_at dksX0_reducedCost_0 16 rfl rfl)
theorem dX0_reducedCost_17 : decode cX0_reducedCost 17 = .ok (.iconst 0, 1) := dk_3 (dk_at dksX0_reducedCost_0 17 rfl rfl)
theorem dX0_reducedCost_18 : decode cX0_reducedCost 18 = .ok (.ireturn, 1) := dk_172 (dk_at dksX0_reducedCost_0 18 rfl rfl)
abbrev cX0_minimumWith : ByteArray := method_18_code
def yX0_minimumWith : MethodName := ⟨RX0, "minimumWith", "(LChoreAssignment;II[J)I"⟩
def dkwX0_minimumWith_0 : List UInt8 := [45, 3, 42, 27, 28, 182, 0, 66, 133, 80, 167, 0, 7, 58, 4, 4, 172, 3, 172]
abbrev dktX0_minimumWith_0 : List UInt8 := dkwX0_minimumWith_0 ++ []
theorem dksX0_minimumWith_0 : cX0_minimumWith.data.toList.drop 0 = dktX0_minimumWith_0 := by decide +kernel
theorem dX0_minimumWith_0 : decode cX0_minimumWith 0 = .ok (.aload_n 3, 1) := dk_45 (dk_at dksX0_minimumWith_0 0 rfl rfl)
theorem dX0_minimumWith_1 : decode cX0_minimumWith 1 = .ok (.iconst 0, 1) := dk_3 (dk_at dksX0_minimumWith_0 1 rfl rfl)
theorem dX0_minimumWith_2 : decode cX0_minimumWith 2 = .ok (.aload_n 0, 1) := dk_42 (dk_at dksX0_minimumWith_0 2 rfl rfl)
theorem dX0_minimumWith_3 : decode cX0_minimumWith 3 = .ok (.iload_n 1, 1) := dk_27 (dk_at dksX0_minimumWith_0 3 rfl rfl)
theorem dX0_minimumWith_4 : decode cX0_minimumWith 4 = .ok (.iload_n 2, 1) := dk_28 (dk_at dksX0_minimumWith_0 4 rfl rfl)
theorem dX0_minimumWith_5 : decode cX0_minimumWith 5 = .ok (.invokevirtual 66, 3) := dk_182 0 66 (dk_at dksX0_minimumWith_0 5 rfl rfl)
theorem dX0_minimumWith_8 : decode cX0_minimumWith 8 = .ok (.i2l, 1) := dk_133 (dk_at dksX0_minimumWith_0 8 rfl rfl)
theorem dX0_minimumWith_9 : decode cX0_minimumWith 9 = .ok (.lastore, 1) := dk_80 (dk_at dksX0_minimumWith_0 9 rfl rfl)
theorem dX0_minimumWith_10 : decode cX0_minimumWith 10 = .ok (.goto 7, 3) := dk_167 0 7 (dk_at dksX0_minimumWith_0 10 rfl rfl)
theorem dX0_minimumWith_13 : decode cX0_minimumWith 13 = .ok (.astore 4, 2) := dk_58 4 (dk_at dksX0_minimumWith_0 13 rfl rfl)
theorem dX0_minimumWith_15 : decode cX0_minimumWith 15 = .ok (.iconst 1, 1) := dk_4 (dk_at dksX0_minimumWith_0 15 rfl rfl)
theorem dX0_minimumWith_16 : decode cX0_minimumWith 16 = .ok (.ireturn, 1) := dk_172 (dk_at dksX0_minimumWith_0 16 rfl rfl)
theorem dX0_minimumWith_17 : decode cX0_minimumWith 17 = .ok (.iconst 0, 1) := dk_3 (dk_at dksX0_minimumWith_0 17 rfl rfl)
theorem dX0_minimumWith_18 : decode cX0_minimumWith 18 = .ok (.ireturn, 1) := dk_172 (dk_at dksX0_minimumWith_0 18 rfl rfl)
abbrev cX0_minimumWithout : ByteArray := method_19_code
def yX0_minimumWithout : MethodName := ⟨RX0, "minimumWithout", "(LChoreAssignment;II[J)I"⟩
def dkwX0_minimumWithout_0 : List UInt8 := [45, 3, 42, 27, 28, 182, 0, 69, 133, 80, 167, 0, 7, 58, 4, 4, 172, 3, 172]
abbrev dktX0_minimumWithout_0 : List UInt8 := dkwX0_minimumWithout_0 ++ []
theorem dksX0_minimumWithout_0 : cX0_minimumWithout.data.toList.drop 0 = dktX0_minimumWithout_0 := by decide +kernel
theorem dX0_minimumWithout_0 : decode cX0_minimumWithout 0 = .ok (.aload_n 3, 1) := dk_45 (dk_at dksX0_minimumWithout_0 0 rfl rfl)
theorem dX0_minimumWithout_1 : decode cX0_minimumWithout 1 = .ok (.iconst 0, 1) := dk_3 (dk_at dksX0_minimumWithout_0 1 rfl rfl)
theorem dX0_minimumWithout_2 : decode cX0_minimumWithout 2 = .ok (.aload_n 0, 1) := dk_42 (dk_at dksX0_minimumWithout_0 2 rfl rfl)
theorem dX0_minimumWithout_3 : decode cX0_minimumWithout 3 = .ok (.iload_n 1, 1) := dk_27 (dk_at dksX0_minimumWithout_0 3 rfl rfl)
theorem dX0_minimumWithout_4 : decode cX0_minimumWithout 4 = .ok (.iload_n 2, 1) := dk_28 (dk_at dksX0_minimumWithout_0 4 rfl rfl)
theorem dX0_minimumWithout_5 : decode cX0_minimumWithout 5 = .ok (.invokevirtual 69, 3) := dk_182 0 69 (dk_at dksX0_minimumWithout_0 5 rfl rfl)
theorem dX0_minimumWithout_8 : decode cX0_minimumWithout 8 = .ok (.i2l, 1) := dk_133 (dk_at dksX0_minimumWithout_0 8 rfl rfl)
theorem dX0_minimumWithout_9 : decode cX0_minimumWithout 9 = .ok (.lastore, 1) := dk_80 (dk_at dksX0_minimumWithout_0 9 rfl rfl)
theorem dX0_minimumWithout_10 : decode cX0_minimumWithout 10 = .ok (.goto 7, 3) := dk_167 0 7 (dk_at dksX0_minimumWithout_0 10 rfl rfl)
theorem dX0_minimumWithout_13 : decode cX0_minimumWithout 13 = .ok (.astore 4, 2) := dk_58 4 (dk_at dksX0_minimumWithout_0 13 rfl rfl)
theorem dX0_minimumWithout_15 : decode cX0_minimumWithout 15 = .ok (.iconst 1, 1) := dk_4 (dk_at dksX0_minimumWithout_0 15 rfl rfl)
theorem dX0_minimumWithout_16 : decode cX0_minimumWithout 16 = .ok (.ireturn, 1) := dk_172 (dk_at dksX0_minimumWithout_0 16 rfl rfl)
theorem dX0_minimumWithout_17 : decode cX0_minimumWithout 17 = .ok (.iconst 0, 1) := dk_3 (dk_at dksX0_minimumWithout_0 17 rfl rfl)
theorem dX0_minimumWithout_18 : decode cX0_minimumWithout 18 = .ok (.ireturn, 1) := dk_172 (dk_at dksX0_minimumWithout_0 18 rfl rfl)
abbrev cX0_minimumIfCost : ByteArray := method_20_code
def yX0_minimumIfCost : MethodName := ⟨RX0, "minimumIfCost", "(LChoreAssignment;III[J)I"⟩
def dkwX0_minimumIfCost_1 : List UInt8 := [172]
abbrev dktX0_minimumIfCost_1 : List UInt8 := dkwX0_minimumIfCost_1 ++ []
def dkwX0_minimumIfCost_0 : List UInt8 := [25, 4, 3, 42, 27, 28, 29, 182, 0, 72, 133, 80, 167, 0, 11, 58, 5, 4, 172, 58, 5, 5, 172, 3]
abbrev dktX0_minimumIfCost_0 : List UInt8 := dkwX0_minimumIfCost_0 ++ dktX0_minimumIfCost_1
theorem dksX0_minimumIfCost_0 : cX0_minimumIfCost.data.toList.drop 0 = dktX0_minimumIfCost_0 := by decide +kernel
theorem dksX0_minimumIfCost_1 : cX0_minimumIfCost.data.toList.drop 24 = dktX0_minimumIfCost_1 := dk_seg dksX0_minimumIfCost_0 24 rfl rfl
theorem dX0_minimumIfCost_0 : decode cX0_minimumIfCost 0 = .ok (.aload 4, 2) := dk_25 4 (dk_at dksX0_minimumIfCost_0 0 rfl rfl)
theorem dX0_minimumIfCost_2 : decode cX0_minimumIfCost 2 = .ok (.iconst 0, 1) := dk_3 (dk_at dksX0_minimumIfCost_0 2 rfl rfl)
theorem dX0_minimumIfCost_3 : decode cX0_minimumIfCost 3 = .ok (.aload_n 0, 1) := dk_42 (dk_at dksX0_minimumIfCost_0 3 rfl rfl)
theorem dX0_minimumIfCost_4 : decode cX0_minimumIfCost 4 = .ok (.iload_n 1, 1) := dk_27 (dk_at dksX0_minimumIfCost_0 4 rfl rfl)
theorem dX0_minimumIfCost_5 : decode cX0_minimumIfCost 5 = .ok (.iload_n 2, 1) := dk_28 (dk_at dksX0_minimumIfCost_0 5 rfl rfl)
theorem dX0_minimumIfCost_6 : decode cX0_minimumIfCost 6 = .ok (.iload_n 3, 1) := dk_29 (dk_at dksX0_minimumIfCost_0 6 rfl rfl)
theorem dX0_minimumIfCost_7 : decode cX0_minimumIfCost 7 = .ok (.invokevirtual 72, 3) := dk_182 0 72 (dk_at dksX0_minimumIfCost_0 7 rfl rfl)
theorem dX0_minimumIfCost_10 : decode cX0_minimumIfCost 10 = .ok (.i2l, 1) := dk_133 (dk_at dksX0_minimumIfCost_0 10 rfl rfl)
theorem dX0_minimumIfCost_11 : decode cX0_minimumIfCost 11 = .ok (.lastore, 1) := dk_80 (dk_at dksX0_minimumIfCost_0 11 rfl rfl)
theorem dX0_minimumIfCost_12 : decode cX0_minimumIfCost 12 = .ok (.goto 11, 3) := dk_167 0 11 (dk_at dksX0_minimumIfCost_0 12 rfl rfl)
theorem dX0_minimumIfCost_15 : decode cX0_minimumIfCost 15 = .ok (.astore 5, 2) := dk_58 5 (dk_at dksX0_minimumIfCost_0 15 rfl rfl)
theorem dX0_minimumIfCost_17 : decode cX0_minimumIfCost 17 = .ok (.iconst 1, 1) := dk_4 (dk_at dksX0_minimumIfCost_0 17 rfl rfl)
theorem dX0_minimumIfCost_18 : decode cX0_minimumIfCost 18 = .ok (.ireturn, 1) := dk_172 (dk_at dksX0_minimumIfCost_0 18 rfl rfl)
theorem dX0_minimumIfCost_19 : decode cX0_minimumIfCost 19 = .ok (.astore 5, 2) := dk_58 5 (dk_at dksX0_minimumIfCost_0 19 rfl rfl)
theorem dX0_minimumIfCost_21 : decode cX0_minimumIfCost 21 = .ok (.iconst 2, 1) := dk_5 (dk_at dksX0_minimumIfCost_0 21 rfl rfl)
theorem dX0_minimumIfCost_22 : decode cX0_minimumIfCost 22 = .ok (.ireturn, 1) := dk_172 (dk_at dksX0_minimumIfCost_0 22 rfl rfl)
theorem dX0_minimumIfCost_23 : decode cX0_minimumIfCost 23 = .ok (.iconst 0, 1) := dk_3 (dk_at dksX0_minimumIfCost_0 23 rfl rfl)
theorem dX0_minimumIfCost_24 : decode cX0_minimumIfCost 24 = .ok (.ireturn, 1) := dk_172 (dk_at dksX0_minimumIfCost_1 0 rfl rfl)
abbrev cX0_fits : ByteArray := method_21_code
def yX0_fits : MethodName := ⟨RX0, "fits", "(LChoreAssignment;I[J)I"⟩
def dkwX0_fits_0 : List UInt8 := [44, 3, 42, 27, 182, 0, 75, 153, 0, 7, 10, 167, 0, 4, 9, 80, 167, 0, 6, 78, 4, 172, 3, 172]
abbrev dktX0_fits_0 : List UInt8 := dkwX0_fits_0 ++ []
theorem dksX0_fits_0 : cX0_fits.data.toList.drop 0 = dktX0_fits_0 := by decide +kernel
theorem dX0_fits_0 : decode cX0_fits 0 = .ok (.aload_n 2, 1) := dk_44 (dk_at dksX0_fits_0 0 rfl rfl)
theorem dX0_fits_1 : decode cX0_fits 1 = .ok (.iconst 0, 1) := dk_3 (dk_at dksX0_fits_0 1 rfl rfl)
theorem dX0_fits_2 : decode cX0_fits 2 = .ok (.aload_n 0, 1) := dk_42 (dk_at dksX0_fits_0 2 rfl rfl)
theorem dX0_fits_3 : decode cX0_fits 3 = .ok (.iload_n 1, 1) := dk_27 (dk_at dksX0_fits_0 3 rfl rfl)
theorem dX0_fits_4 : decode cX0_fits 4 = .ok (.invokevirtual 75, 3) := dk_182 0 75 (dk_at dksX0_fits_0 4 rfl rfl)
theorem dX0_fits_7 : decode cX0_fits 7 = .ok (.ifCond .eq 7, 3) := dk_153 0 7 (dk_at dksX0_fits_0 7 rfl rfl)
theorem dX0_fits_10 : decode cX0_fits 10 = .ok (.lconst 1, 1) := dk_10 (dk_at dksX0_fits_0 10 rfl rfl)
theorem dX0_fits_11 : decode cX0_fits 11 = .ok (.goto 4, 3) := dk_167 0 4 (dk_at dksX0_fits_0 11 rfl rfl)
theorem dX0_fits_14 : decode cX0_fits 14 = .ok (.lconst 0, 1) := dk_9 (dk_at dksX0_fits_0 14 rfl rfl)
theorem dX0_fits_15 : decode cX0_fits 15 = .ok (.lastore, 1) := dk_80 (dk_at dksX0_fits_0 15 rfl rfl)
theorem dX0_fits_16 : decode cX0_fits 16 = .ok (.goto 6, 3) := dk_167 0 6 (dk_at dksX0_fits_0 16 rfl rfl)
theorem dX0_fits_19 : decode cX0_fits 19 = .ok (.astore_n 3, 1) := dk_78 (dk_at dksX0_fits_0 19 rfl rfl)
theorem dX0_fits_20 : decode cX0_fits 20 = .ok (.iconst 1, 1) := dk_4 (dk_at dksX0_fits_0 20 rfl rfl)
theorem dX0_fits_21 : decode cX0_fits 21 = .ok (.ireturn, 1) := dk_172 (dk_at dksX0_fits_0 21 rfl rfl)
theorem dX0_fits_22 : decode cX0_fits 22 = .ok (.iconst 0, 1) := dk_3 (dk_at dksX0_fits_0 22 rfl rfl)
theorem dX0_fits_23 : decode cX0_fits 23 = .ok (.ireturn, 1) := dk_172 (dk_at dksX0_fits_0 23 rfl rfl)
abbrev cX0_countWithin : ByteArray := method_22_code
def yX0_countWithin : MethodName := ⟨RX0, "countWithin", "(LChoreAssignment;I[J)I"⟩
def dkwX0_countWithin_0 : List UInt8 := [44, 3, 42, 27, 182, 0, 79, 133, 80, 167, 0, 6, 78, 4, 172, 3, 172]
abbrev dktX0_countWithin_0 : List UInt8 := dkwX0_countWithin_0 ++ []
theorem dksX0_countWithin_0 : cX0_countWithin.data.toList.drop 0 = dktX0_countWithin_0 := by decide +kernel
theorem dX0_countWithin_0 : decode cX0_countWithin 0 = .ok (.aload_n 2, 1) := dk_44 (dk_at dksX0_countWithin_0 0 rfl rfl)
theorem dX0_countWithin_1 : decode cX0_countWithin 1 = .ok (.iconst 0, 1) := dk_3 (dk_at dksX0_countWithin_0 1 rfl rfl)
theorem dX0_countWithin_2 : decode cX0_countWithin 2 = .ok (.aload_n 0, 1) := dk_42 (dk_at dksX0_countWithin_0 2 rfl rfl)
theorem dX0_countWithin_3 : decode cX0_countWithin 3 = .ok (.iload_n 1, 1) := dk_27 (dk_at dksX0_countWithin_0 3 rfl rfl)
theorem dX0_countWithin_4 : decode cX0_countWithin 4 = .ok (.invokevirtual 79, 3) := dk_182 0 79 (dk_at dksX0_countWithin_0 4 rfl rfl)
theorem dX0_countWithin_7 : decode cX0_countWithin 7 = .ok (.i2l, 1) := dk_133 (dk_at dksX0_countWithin_0 7 rfl rfl)
theorem dX0_countWithin_8 : decode cX0_countWithin 8 = .ok (.lastore, 1) := dk_80 (dk_at dksX0_countWithin_0 8 rfl rfl)
theorem dX0_countWithin_9 : decode cX0_countWithin 9 = .ok (.goto 6, 3) := dk_167 0 6 (dk_at dksX0_countWithin_0 9 rfl rfl)
theorem dX0_countWithin_12 : decode cX0_countWithin 12 = .ok (.astore_n 3, 1) := dk_78 (dk_at dksX0_countWithin_0 12 rfl rfl)
theorem dX0_countWithin_13 : decode cX0_countWithin 13 = .ok (.iconst 1, 1) := dk_4 (dk_at dksX0_countWithin_0 13 rfl rfl)
theorem dX0_countWithin_14 : decode cX0_countWithin 14 = .ok (.ireturn, 1) := dk_172 (dk_at dksX0_countWithin_0 14 rfl rfl)
theorem dX0_countWithin_15 : decode cX0_countWithin 15 = .ok (.iconst 0, 1) := dk_3 (dk_at dksX0_countWithin_0 15 rfl rfl)
theorem dX0_countWithin_16 : decode cX0_countWithin 16 = .ok (.ireturn, 1) := dk_172 (dk_at dksX0_countWithin_0 16 rfl rfl)
abbrev cX0_sumOf : ByteArray := method_23_code
def yX0_sumOf : MethodName := ⟨RX0, "sumOf", "(LChoreAssignment;I[J)I"⟩
def dkwX0_sumOf_0 : List UInt8 := [44, 3, 42, 27, 182, 0, 82, 133, 80, 167, 0, 6, 78, 4, 172, 3, 172]
abbrev dktX0_sumOf_0 : List UInt8 := dkwX0_sumOf_0 ++ []
theorem dksX0_sumOf_0 : cX0_sumOf.data.toList.drop 0 = dktX0_sumOf_0 := by decide +kernel
theorem dX0_sumOf_0 : decode cX0_sumOf 0 = .ok (.aload_n 2, 1) := dk_44 (dk_at dksX0_sumOf_0 0 rfl rfl)
theorem dX0_sumOf_1 : decode cX0_sumOf 1 = .ok (.iconst 0, 1) := dk_3 (dk_at dksX0_sumOf_0 1 rfl rfl)
theorem dX0_sumOf_2 : decode cX0_sumOf 2 = .ok (.aload_n 0, 1) := dk_42 (dk_at dksX0_sumOf_0 2 rfl rfl)
theorem dX0_sumOf_3 : decode cX0_sumOf 3 = .ok (.iload_n 1, 1) := dk_27 (dk_at dksX0_sumOf_0 3 rfl rfl)
theorem dX0_sumOf_4 : decode cX0_sumOf 4 = .ok (.invokevirtual 82, 3) := dk_182 0 82 (dk_at dksX0_sumOf_0 4 rfl rfl)
theorem dX0_sumOf_7 : decode cX0_sumOf 7 = .ok (.i2l, 1) := dk_133 (dk_at dksX0_sumOf_0 7 rfl rfl)
theorem dX0_sumOf_8 : decode cX0_sumOf 8 = .ok (.lastore, 1) := dk_80 (dk_at dksX0_sumOf_0 8 rfl rfl)
theorem dX0_sumOf_9 : decode cX0_sumOf 9 = .ok (.goto 6, 3) := dk_167 0 6 (dk_at dksX0_sumOf_0 9 rfl rfl)
theorem dX0_sumOf_12 : decode cX0_sumOf 12 = .ok (.astore_n 3, 1) := dk_78 (dk_at dksX0_sumOf_0 12 rfl rfl)
theorem dX0_sumOf_13 : decode cX0_sumOf 13 = .ok (.iconst 1, 1) := dk_4 (dk_at dksX0_sumOf_0 13 rfl rfl)
theorem dX0_sumOf_14 : decode cX0_sumOf 14 = .ok (.ireturn, 1) := dk_172 (dk_at dksX0_sumOf_0 14 rfl rfl)
theorem dX0_sumOf_15 : decode cX0_sumOf 15 = .ok (.iconst 0, 1) := dk_3 (dk_at dksX0_sumOf_0 15 rfl rfl)
theorem dX0_sumOf_16 : decode cX0_sumOf 16 = .ok (.ireturn, 1) := dk_172 (dk_at dksX0_sumOf_0 16 rfl rfl)
abbrev cX0_startEnumeration : ByteArray := method_24_code
def yX0_startEnumeration : MethodName := ⟨RX0, "startEnumeration", "(LChoreAssignment;[J)I"⟩
def dkwX0_startEnumeration_0 : List UInt8 := [43, 3, 42, 182, 0, 85, 133, 80, 167, 0, 6, 77, 4, 172, 3, 172]
abbrev dktX0_startEnumeration_0 : List UInt8 := dkwX0_startEnumeration_0 ++ []
theorem dksX0_startEnumeration_0 : cX0_startEnumeration.data.toList.drop 0 = dktX0_startEnumeration_0 := by decide +kernel
theorem dX0_startEnumeration_0 : decode cX0_startEnumeration 0 = .ok (.aload_n 1, 1) := dk_43 (dk_at dksX0_startEnumeration_0 0 rfl rfl)
theorem dX0_startEnumeration_1 : decode cX0_startEnumeration 1 = .ok (.iconst 0, 1) := dk_3 (dk_at dksX0_startEnumeration_0 1 rfl rfl)
theorem dX0_startEnumeration_2 : decode cX0_startEnumeration 2 = .ok (.aload_n 0, 1) := dk_42 (dk_at dksX0_startEnumeration_0 2 rfl rfl)
theorem dX0_startEnumeration_3 : decode cX0_startEnumeration 3 = .ok (.invokevirtual 85, 3) := dk_182 0 85 (dk_at dksX0_startEnumeration_0 3 rfl rfl)
theorem dX0_startEnumeration_6 : decode cX0_startEnumeration 6 = .ok (.i2l, 1) := dk_133 (dk_at dksX0_startEnumeration_0 6 rfl rfl)
theorem dX0_startEnumeration_7 : decode cX0_startEnumeration 7 = .ok (.lastore, 1) := dk_80 (dk_at dksX0_startEnumeration_0 7 rfl rfl)
theorem dX0_startEnumeration_8 : decode cX0_startEnumeration 8 = .ok (.goto 6, 3) := dk_167 0 6 (dk_at dksX0_startEnumeration_0 8 rfl rfl)
theorem dX0_startEnumeration_11 : decode cX0_startEnumeration 11 = .ok (.astore_n 2, 1) := dk_77 (dk_at dksX0_startEnumeration_0 11 rfl rfl)
theorem dX0_startEnumeration_12 : decode cX0_startEnumeration 12 = .ok (.iconst 1, 1) := dk_4 (dk_at dksX0_startEnumeration_0 12 rfl rfl)
theorem dX0_startEnumeration_13 : decode cX0_startEnumeration 13 = .ok (.ireturn, 1) := dk_172 (dk_at dksX0_startEnumeration_0 13 rfl rfl)
theorem dX0_startEnumeration_14 : decode cX0_startEnumeration 14 = .ok (.iconst 0, 1) := dk_3 (dk_at dksX0_startEnumeration_0 14 rfl rfl)
theorem dX0_startEnumeration_15 : decode cX0_startEnumeration 15 = .ok (.ireturn, 1) := dk_172 (dk_at dksX0_startEnumeration_0 15 rfl rfl)
abbrev cX0_nextSum : ByteArray := method_25_code
def yX0_nextSum : MethodName := ⟨RX0, "nextSum", "(LChoreAssignment;[J)I"⟩
def dkwX0_nextSum_0 : List UInt8 := [43, 3, 42, 182, 0, 88, 133, 80, 167, 0, 9, 77, 4, 172, 77, 5, 172, 3, 172]
abbrev dktX0_nextSum_0 : List UInt8 := dkwX0_nextSum_0 ++ []
theorem dksX0_nextSum_0 : cX0_nextSum.data.toList.drop 0 = dktX0_nextSum_0 := by decide +kernel
theorem dX0_nextSum_0 : decode cX0_nextSum 0 = .ok (.aload_n 1, 1) := dk_43 (dk_at dksX0_nextSum_0 0 rfl rfl)
theorem dX0_nextSum_1 : decode cX0_nextSum 1 = .ok (.iconst 0, 1) := dk_3 (dk_at dksX0_nextSum_0 1 rfl rfl)
theorem dX0_nextSum_2 : decode cX0_nextSum 2 = .ok (.aload_n 0, 1) := dk_42 (dk_at dksX0_nextSum_0 2 rfl rfl)
theorem dX0_nextSum_3 : decode cX0_nextSum 3 = .ok (.invokevirtual 88, 3) := dk_182 0 88 (dk_at dksX0_nextSum_0 3 rfl rfl)
theorem dX0_nextSum_6 : decode cX0_nextSum 6 = .ok (.i2l, 1) := dk_133 (dk_at dksX0_nextSum_0 6 rfl rfl)
theorem dX0_nextSum_7 : decode cX0_nextSum 7 = .ok (.lastore, 1) := dk_80 (dk_at dksX0_nextSum_0 7 rfl rfl)
theorem dX0_nextSum_8 : decode cX0_nextSum 8 = .ok (.goto 9, 3) := dk_167 0 9 (dk_at dksX0_nextSum_0 8 rfl rfl)
theorem dX0_nextSum_11 : decode cX0_nextSum 11 = .ok (.astore_n 2, 1) := dk_77 (dk_at dksX0_nextSum_0 11 rfl rfl)
theorem dX0_nextSum_12 : decode cX0_nextSum 12 = .ok (.iconst 1, 1) := dk_4 (dk_at dksX0_nextSum_0 12 rfl rfl)
theorem dX0_nextSum_13 : decode cX0_nextSum 13 = .ok (.ireturn, 1) := dk_172 (dk_at dksX0_nextSum_0 13 rfl rfl)
theorem dX0_nextSum_14 : decode cX0_nextSum 14 = .ok (.astore_n 2, 1) := dk_77 (dk_at dksX0_nextSum_0 14 rfl rfl)
theorem dX0_nextSum_15 : decode cX0_nextSum 15 = .ok (.iconst 2, 1) := dk_5 (dk_at dksX0_nextSum_0 15 rfl rfl)
theorem dX0_nextSum_16 : decode cX0_nextSum 16 = .ok (.ireturn, 1) := dk_172 (dk_at dksX0_nextSum_0 16 rfl rfl)
theorem dX0_nextSum_17 : decode cX0_nextSum 17 = .ok (.iconst 0, 1) := dk_3 (dk_at dksX0_nextSum_0 17 rfl rfl)
theorem dX0_nextSum_18 : decode cX0_nextSum 18 = .ok (.ireturn, 1) := dk_172 (dk_at dksX0_nextSum_0 18 rfl rfl)
abbrev cX0_currentColumn : ByteArray := method_26_code
def yX0_currentColumn : MethodName := ⟨RX0, "currentColumn", "(LChoreAssignment;I[J)I"⟩
def dkwX0_currentColumn_0 : List UInt8 := [44, 3, 42, 27, 182, 0, 93, 133, 80, 167, 0, 9, 78, 4, 172, 78, 5, 172, 3, 172]
abbrev dktX0_currentColumn_0 : List UInt8 := dkwX0_currentColumn_0 ++ []
theorem dksX0_currentColumn_0 : cX0_currentColumn.data.toList.drop 0 = dktX0_currentColumn_0 := by decide +kernel
theorem dX0_currentColumn_0 : decode cX0_currentColumn 0 = .ok (.aload_n 2, 1) := dk_44 (dk_at dksX0_currentColumn_0 0 rfl rfl)
theorem dX0_currentColumn_1 : decode cX0_currentColumn 1 = .ok (.iconst 0, 1) := dk_3 (dk_at dksX0_currentColumn_0 1 rfl rfl)
theorem dX0_currentColumn_2 : decode cX0_currentColumn 2 = .ok (.aload_n 0, 1) := dk_42 (dk_at dksX0_currentColumn_0 2 rfl rfl)
theorem dX0_currentColumn_3 : decode cX0_currentColumn 3 = .ok (.iload_n 1, 1) := dk_27 (dk_at dksX0_currentColumn_0 3 rfl rfl)
theorem dX0_currentColumn_4 : decode cX0_currentColumn 4 = .ok (.invokevirtual 93, 3) := dk_182 0 93 (dk_at dksX0_currentColumn_0 4 rfl rfl)
theorem dX0_currentColumn_7 : decode cX0_currentColumn 7 = .ok (.i2l, 1) := dk_133 (dk_at dksX0_currentColumn_0 7 rfl rfl)
theorem dX0_currentColumn_8 : decode cX0_currentColumn 8 = .ok (.lastore, 1) := dk_80 (dk_at dksX0_currentColumn_0 8 rfl rfl)
theorem dX0_currentColumn_9 : decode cX0_currentColumn 9 = .ok (.goto 9, 3) := dk_167 0 9 (dk_at dksX0_currentColumn_0 9 rfl rfl)
theorem dX0_currentColumn_12 : decode cX0_currentColumn 12 = .ok (.astore_n 3, 1) := dk_78 (dk_at dksX0_currentColumn_0 12 rfl rfl)
theorem dX0_currentColumn_13 : decode cX0_currentColumn 13 = .ok (.iconst 1, 1) := dk_4 (dk_at dksX0_currentColumn_0 13 rfl rfl)
theorem dX0_currentColumn_14 : decode cX0_currentColumn 14 = .ok (.ireturn, 1) := dk_172 (dk_at dksX0_currentColumn_0 14 rfl rfl)
theorem dX0_currentColumn_15 : decode cX0_currentColumn 15 = .ok (.astore_n 3, 1) := dk_78 (dk_at dksX0_currentColumn_0 15 rfl rfl)
theorem dX0_currentColumn_16 : decode cX0_currentColumn 16 = .ok (.iconst 2, 1) := dk_5 (dk_at dksX0_currentColumn_0 16 rfl rfl)
theorem dX0_currentColumn_17 : decode cX0_currentColumn 17 = .ok (.ireturn, 1) := dk_172 (dk_at dksX0_currentColumn_0 17 rfl rfl)
theorem dX0_currentColumn_18 : decode cX0_currentColumn 18 = .ok (.iconst 0, 1) := dk_3 (dk_at dksX0_currentColumn_0 18 rfl rfl)
theorem dX0_currentColumn_19 : decode cX0_currentColumn 19 = .ok (.ireturn, 1) := dk_172 (dk_at dksX0_currentColumn_0 19 rfl rfl)
abbrev cX0_shareOf : ByteArray := method_27_code
def yX0_shareOf : MethodName := ⟨RX0, "shareOf", "(LChoreAssignment;I[D)I"⟩
def dkwX0_shareOf_0 : List UInt8 := [44, 3, 42, 27, 182, 0, 96, 141, 82, 167, 0, 6, 78, 4, 172, 3, 172]
abbrev dktX0_shareOf_0 : List UInt8 := dkwX0_shareOf_0 ++ []
theorem dksX0_shareOf_0 : cX0_shareOf.data.toList.drop 0 = dktX0_shareOf_0 := by decide +kernel
theorem dX0_shareOf_0 : decode cX0_shareOf 0 = .ok (.aload_n 2, 1) := dk_44 (dk_at dksX0_shareOf_0 0 rfl rfl)
theorem dX0_shareOf_1 : decode cX0_shareOf 1 = .ok (.iconst 0, 1) := dk_3 (dk_at dksX0_shareOf_0 1 rfl rfl)
theorem dX0_shareOf_2 : decode cX0_shareOf 2 = .ok (.aload_n 0, 1) := dk_42 (dk_at dksX0_shareOf_0 2 rfl rfl)
theorem dX0_shareOf_3 : decode cX0_shareOf 3 = .ok (.iload_n 1, 1) := dk_27 (dk_at dksX0_shareOf_0 3 rfl rfl)
theorem dX0_shareOf_4 : decode cX0_shareOf 4 = .ok (.invokevirtual 96, 3) := dk_182 0 96 (dk_at dksX0_shareOf_0 4 rfl rfl)
theorem dX0_shareOf_7 : decode cX0_shareOf 7 = .ok (.f2d, 1) := dk_141 (dk_at dksX0_shareOf_0 7 rfl rfl)
theorem dX0_shareOf_8 : decode cX0_shareOf 8 = .ok (.dastore, 1) := dk_82 (dk_at dksX0_shareOf_0 8 rfl rfl)
theorem dX0_shareOf_9 : decode cX0_shareOf 9 = .ok (.goto 6, 3) := dk_167 0 6 (dk_at dksX0_shareOf_0 9 rfl rfl)
theorem dX0_shareOf_12 : decode cX0_shareOf 12 = .ok (.astore_n 3, 1) := dk_78 (dk_at dksX0_shareOf_0 12 rfl rfl)
theorem dX0_shareOf_13 : decode cX0_shareOf 13 = .ok (.iconst 1, 1) := dk_4 (dk_at dksX0_shareOf_0 13 rfl rfl)
theorem dX0_shareOf_14 : decode cX0_shareOf 14 = .ok (.ireturn, 1) := dk_172 (dk_at dksX0_shareOf_0 14 rfl rfl)
theorem dX0_shareOf_15 : decode cX0_shareOf 15 = .ok (.iconst 0, 1) := dk_3 (dk_at dksX0_shareOf_0 15 rfl rfl)
theorem dX0_shareOf_16 : decode cX0_shareOf 16 = .ok (.ireturn, 1) := dk_172 (dk_at dksX0_shareOf_0 16 rfl rfl)
theorem q55 : (Jvm.Cond.initialized "ChoreAssignmentLaw") ∈ lw_all := lw_g (lw_at lw_m1 0 rfl) rfl
theorem q93 : (Jvm.Cond.classLink "ChoreAssignmentLaw" (8 : Nat) "ChoreAssignment") ∈ lw_all := lw_g (lw_at lw_m1 38 rfl) rfl
theorem q95 : (Jvm.Cond.methodLink "ChoreAssignmentLaw" (100 : Nat) ({ cls := "ChoreAssignment", name := "<init>", desc := "()V" } : Jvm.MethodName)) ∈ lw_all := lw_g (lw_at lw_m1 40 rfl) rfl
theorem q407 : (Jvm.Cond.methodLink "ChoreAssignmentLaw" (149 : Nat) ({ cls := "ChoreAssignment", name := "save", desc := "()I" } : Jvm.MethodName)) ∈ lw_all := lw_g (lw_at lw_m2 112 rfl) rfl
theorem q505 : (Jvm.Cond.methodLink "ChoreAssignmentLaw" (153 : Nat) ({ cls := "ChoreAssignment", name := "restore", desc := "()I" } : Jvm.MethodName)) ∈ lw_all := lw_g (lw_at lw_m2 210 rfl) rfl
theorem q517 : (Jvm.Cond.methodLink "ChoreAssignmentLaw" (157 : Nat) ({ cls := "ChoreAssignment", name := "distance", desc := "()I" } : Jvm.MethodName)) ∈ lw_all := lw_g (lw_at lw_m2 222 rfl) rfl
theorem q532 : (Jvm.Cond.methodLink "ChoreAssignmentLaw" (161 : Nat) ({ cls := "ChoreAssignment", name := "rows", desc := "()I" } : Jvm.MethodName)) ∈ lw_all := lw_g (lw_at lw_m2 237 rfl) rfl
theorem q536 : (Jvm.Cond.methodLink "ChoreAssignmentLaw" (165 : Nat) ({ cls := "ChoreAssignment", name := "columns", desc := "()I" } : Jvm.MethodName)) ∈ lw_all := lw_g (lw_at lw_m3 1 rfl) rfl
theorem q540 : (Jvm.Cond.methodLink "ChoreAssignmentLaw" (169 : Nat) ({ cls := "ChoreAssignment", name := "forbiddenCount", desc := "()I" } : Jvm.MethodName)) ∈ lw_all := lw_g (lw_at lw_m3 5 rfl) rfl
theorem q544 : (Jvm.Cond.methodLink "ChoreAssignmentLaw" (173 : Nat) ({ cls := "ChoreAssignment", name := "totalCost", desc := "()I" } : Jvm.MethodName)) ∈ lw_all := lw_g (lw_at lw_m3 9 rfl) rfl
theorem q545 : (Jvm.Cond.methodLink "ChoreAssignmentLaw" (177 : Nat) ({ cls := "ChoreAssignment", name := "minimum", desc := "()I" } : Jvm.MethodName)) ∈ lw_all := lw_g (lw_at lw_m3 10 rfl) rfl
theorem q891 : (Jvm.Cond.methodLink "ChoreAssignmentLaw" (181 : Nat) ({ cls := "ChoreAssignment", name := "savedMinimum", desc := "()I" } : Jvm.MethodName)) ∈ lw_all := lw_g (lw_at lw_m4 116 rfl) rfl
theorem q895 : (Jvm.Cond.methodLink "ChoreAssignmentLaw" (189 : Nat) ({ cls := "ChoreAssignment", name := "optimalCount", desc := "()I" } : Jvm.MethodName)) ∈ lw_all := lw_g (lw_at lw_m4 120 rfl) rfl
theorem q909 : (Jvm.Cond.methodLink "ChoreAssignmentLaw" (211 : Nat) ({ cls := "ChoreAssignment", name := "secondBest", desc := "()I" } : Jvm.MethodName)) ∈ lw_all := lw_g (lw_at lw_m4 134 rfl) rfl
theorem q946 : (Jvm.Cond.methodLink "ChoreAssignmentLaw" (215 : Nat) ({ cls := "ChoreAssignment", name := "maximum", desc := "()I" } : Jvm.MethodName)) ∈ lw_all := lw_g (lw_at lw_m4 171 rfl) rfl
theorem q950 : (Jvm.Cond.methodLink "ChoreAssignmentLaw" (219 : Nat) ({ cls := "ChoreAssignment", name := "bottleneck", desc := "()I" } : Jvm.MethodName)) ∈ lw_all := lw_g (lw_at lw_m4 175 rfl) rfl
theorem q962 : (Jvm.Cond.methodLink "ChoreAssignmentLaw" (241 : Nat) ({ cls := "ChoreAssignment", name := "stepsMade", desc := "()I" } : Jvm.MethodName)) ∈ lw_all := lw_g (lw_at lw_m4 187 rfl) rfl
theorem q966 : (Jvm.Cond.methodLink "ChoreAssignmentLaw" (245 : Nat) ({ cls := "ChoreAssignment", name := "meanCost", desc := "()D" } : Jvm.MethodName)) ∈ lw_all := lw_g (lw_at lw_m4 191 rfl) rfl
theorem q970 : (Jvm.Cond.methodLink "ChoreAssignmentLaw" (254 : Nat) ({ cls := "ChoreAssignment", name := "checksum", desc := "()J" } : Jvm.MethodName)) ∈ lw_all := lw_g (lw_at lw_m4 195 rfl) rfl
theorem q978 : (Jvm.Cond.methodLink "ChoreAssignmentLaw" (259 : Nat) ({ cls := "ChoreAssignment", name := "isSound", desc := "()Z" } : Jvm.MethodName)) ∈ lw_all := lw_g (lw_at lw_m4 203 rfl) rfl
theorem q991 : (Jvm.Cond.methodLink "ChoreAssignmentLaw" (104 : Nat) ({ cls := "ChoreAssignmentLaw", name := "resize", desc := "(LChoreAssignment;II[J)I" } : Jvm.MethodName)) ∈ lw_all := lw_g (lw_at lw_m4 216 rfl) rfl
theorem q992 : (Jvm.Cond.static ({ cls := "ChoreAssignmentLaw", name := "resize", desc := "(LChoreAssignment;II[J)I" } : Jvm.MethodName)) ∈ lw_all := lw_g (lw_at lw_m4 217 rfl) rfl
theorem q993 : (Jvm.Cond.codeWith ({ cls := "ChoreAssignmentLaw", name := "resize", desc := "(LChoreAssignment;II[J)I" } : Jvm.MethodName) method_3_code (5 : Nat) (Option.some Jvm.ClassFile.FieldType.int) [((0 : Nat), (10 : Nat), (13 : Nat), (13 : Nat))]) ∈ lw_all := lw_g (lw_at lw_m4 218 rfl) rfl
theorem q994 : (Jvm.Cond.classLink "ChoreAssignmentLaw" (13 : Nat) "java/lang/IllegalArgumentException") ∈ lw_all := lw_g (lw_at lw_m4 219 rfl) rfl
theorem q995 : (Jvm.Cond.methodLink "ChoreAssignmentLaw" (7 : Nat) ({ cls := "ChoreAssignment", name := "resize", desc := "(II)I" } : Jvm.MethodName)) ∈ lw_all := lw_g (lw_at lw_m4 220 rfl) rfl
theorem q1005 : (Jvm.Cond.methodLink "ChoreAssignmentLaw" (113 : Nat) ({ cls := "ChoreAssignmentLaw", name := "setCost", desc := "(LChoreAssignment;III[J)I" } : Jvm.MethodName)) ∈ lw_all := lw_g (lw_at lw_m4 230 rfl) rfl
theorem q1006 : (Jvm.Cond.static ({ cls := "ChoreAssignmentLaw", name := "setCost", desc := "(LChoreAssignment;III[J)I" } : Jvm.MethodName)) ∈ lw_all := lw_g (lw_at lw_m4 231 rfl) rfl
theorem q1007 : (Jvm.Cond.codeWith ({ cls := "ChoreAssignmentLaw", name := "setCost", desc := "(LChoreAssignment;III[J)I" } : Jvm.MethodName) method_4_code (6 : Nat) (Option.some Jvm.ClassFile.FieldType.int) [((0 : Nat), (12 : Nat), (15 : Nat), (19 : Nat)), ((0 : Nat), (12 : Nat), (19 : Nat), (13 : Nat))]) ∈ lw_all := lw_g (lw_at lw_m4 232 rfl) rfl
theorem q1008 : (Jvm.Cond.classLink "ChoreAssignmentLaw" (19 : Nat) "java/lang/IndexOutOfBoundsException") ∈ lw_all := lw_g (lw_at lw_m4 233 rfl) rfl
theorem q1041 : (Jvm.Cond.methodLink "ChoreAssignmentLaw" (15 : Nat) ({ cls := "ChoreAssignment", name := "setCost", desc := "(III)I" } : Jvm.MethodName)) ∈ lw_all := lw_g (lw_at lw_m5 26 rfl) rfl
theorem q1057 : (Jvm.Cond.methodLink "ChoreAssignmentLaw" (119 : Nat) ({ cls := "ChoreAssignmentLaw", name := "setRow", desc := "(LChoreAssignment;IJ[J)I" } : Jvm.MethodName)) ∈ lw_all := lw_g (lw_at lw_m5 42 rfl) rfl
theorem q1058 : (Jvm.Cond.static ({ cls := "ChoreAssignmentLaw", name := "setRow", desc := "(LChoreAssignment;IJ[J)I" } : Jvm.MethodName)) ∈ lw_all := lw_g (lw_at lw_m5 43 rfl) rfl
theorem q1059 : (Jvm.Cond.codeWith ({ cls := "ChoreAssignmentLaw", name := "setRow", desc := "(LChoreAssignment;IJ[J)I" } : Jvm.MethodName) method_5_code (6 : Nat) (Option.some Jvm.ClassFile.FieldType.int) [((0 : Nat), (11 : Nat), (14 : Nat), (19 : Nat)), ((0 : Nat), (11 : Nat), (18 : Nat), (13 : Nat))]) ∈ lw_all := lw_g (lw_at lw_m5 44 rfl) rfl
theorem q1060 : (Jvm.Cond.methodLink "ChoreAssignmentLaw" (21 : Nat) ({ cls := "ChoreAssignment", name := "setRow", desc := "(IJ)I" } : Jvm.MethodName)) ∈ lw_all := lw_g (lw_at lw_m5 45 rfl) rfl
theorem q1065 : (Jvm.Cond.methodLink "ChoreAssignmentLaw" (123 : Nat) ({ cls := "ChoreAssignmentLaw", name := "fill", desc := "(LChoreAssignment;II[J)I" } : Jvm.MethodName)) ∈ lw_all := lw_g (lw_at lw_m5 50 rfl) rfl
theorem q1066 : (Jvm.Cond.static ({ cls := "ChoreAssignmentLaw", name := "fill", desc := "(LChoreAssignment;II[J)I" } : Jvm.MethodName)) ∈ lw_all := lw_g (lw_at lw_m5 51 rfl) rfl
theorem q1067 : (Jvm.Cond.codeWith ({ cls := "ChoreAssignmentLaw", name := "fill", desc := "(LChoreAssignment;II[J)I" } : Jvm.MethodName) method_6_code (5 : Nat) (Option.some Jvm.ClassFile.FieldType.int) [((0 : Nat), (10 : Nat), (13 : Nat), (13 : Nat))]) ∈ lw_all := lw_g (lw_at lw_m5 52 rfl) rfl
theorem q1068 : (Jvm.Cond.methodLink "ChoreAssignmentLaw" (25 : Nat) ({ cls := "ChoreAssignment", name := "fill", desc := "(II)I" } : Jvm.MethodName)) ∈ lw_all := lw_g (lw_at lw_m5 53 rfl) rfl
theorem q1073 : (Jvm.Cond.methodLink "ChoreAssignmentLaw" (126 : Nat) ({ cls := "ChoreAssignmentLaw", name := "setForbidden", desc := "(LChoreAssignment;IIZ[J)I" } : Jvm.MethodName)) ∈ lw_all := lw_g (lw_at lw_m5 58 rfl) rfl
theorem q1074 : (Jvm.Cond.static ({ cls := "ChoreAssignmentLaw", name := "setForbidden", desc := "(LChoreAssignment;IIZ[J)I" } : Jvm.MethodName)) ∈ lw_all := lw_g (lw_at lw_m5 59 rfl) rfl
theorem q1075 : (Jvm.Cond.codeWith ({ cls := "ChoreAssignmentLaw", name := "setForbidden", desc := "(LChoreAssignment;IIZ[J)I" } : Jvm.MethodName) method_7_code (6 : Nat) (Option.some Jvm.ClassFile.FieldType.int) [((0 : Nat), (12 : Nat), (15 : Nat), (19 : Nat))]) ∈ lw_all := lw_g (lw_at lw_m5 60 rfl) rfl
theorem q1076 : (Jvm.Cond.methodLink "ChoreAssignmentLaw" (28 : Nat) ({ cls := "ChoreAssignment", name := "setForbidden", desc := "(IIZ)I" } : Jvm.MethodName)) ∈ lw_all := lw_g (lw_at lw_m5 61 rfl) rfl
theorem q1084 : (Jvm.Cond.methodLink "ChoreAssignmentLaw" (130 : Nat) ({ cls := "ChoreAssignmentLaw", name := "costAt", desc := "(LChoreAssignment;II[J)I" } : Jvm.MethodName)) ∈ lw_all := lw_g (lw_at lw_m5 69 rfl) rfl
theorem q1085 : (Jvm.Cond.static ({ cls := "ChoreAssignmentLaw", name := "costAt", desc := "(LChoreAssignment;II[J)I" } : Jvm.MethodName)) ∈ lw_all := lw_g (lw_at lw_m5 70 rfl) rfl
theorem q1086 : (Jvm.Cond.codeWith ({ cls := "ChoreAssignmentLaw", name := "costAt", desc := "(LChoreAssignment;II[J)I" } : Jvm.MethodName) method_8_code (5 : Nat) (Option.some Jvm.ClassFile.FieldType.int) [((0 : Nat), (10 : Nat), (13 : Nat), (19 : Nat))]) ∈ lw_all := lw_g (lw_at lw_m5 71 rfl) rfl
theorem q1087 : (Jvm.Cond.methodLink "ChoreAssignmentLaw" (32 : Nat) ({ cls := "ChoreAssignment", name := "costAt", desc := "(II)I" } : Jvm.MethodName)) ∈ lw_all := lw_g (lw_at lw_m5 72 rfl) rfl
theorem q1091 : (Jvm.Cond.methodLink "ChoreAssignmentLaw" (133 : Nat) ({ cls := "ChoreAssignmentLaw", name := "addToRow", desc := "(LChoreAssignment;II[J)I" } : Jvm.MethodName)) ∈ lw_all := lw_g (lw_at lw_m5 76 rfl) rfl
theorem q1092 : (Jvm.Cond.static ({ cls := "ChoreAssignmentLaw", name := "addToRow", desc := "(LChoreAssignment;II[J)I" } : Jvm.MethodName)) ∈ lw_all := lw_g (lw_at lw_m5 77 rfl) rfl
theorem q1093 : (Jvm.Cond.codeWith ({ cls := "ChoreAssignmentLaw", name := "addToRow", desc := "(LChoreAssignment;II[J)I" } : Jvm.MethodName) method_9_code (5 : Nat) (Option.some Jvm.ClassFile.FieldType.int) [((0 : Nat), (10 : Nat), (13 : Nat), (19 : Nat)), ((0 : Nat), (10 : Nat), (17 : Nat), (13 : Nat)), ((0 : Nat), (10 : Nat), (21 : Nat), (38 : Nat))]) ∈ lw_all := lw_g (lw_at lw_m5 78 rfl) rfl
theorem q1094 : (Jvm.Cond.classLink "ChoreAssignmentLaw" (38 : Nat) "java/lang/IllegalStateException") ∈ lw_all := lw_g (lw_at lw_m5 79 rfl) rfl
theorem q1095 : (Jvm.Cond.methodLink "ChoreAssignmentLaw" (35 : Nat) ({ cls := "ChoreAssignment", name := "addToRow", desc := "(II)I" } : Jvm.MethodName)) ∈ lw_all := lw_g (lw_at lw_m5 80 rfl) rfl
theorem q1118 : (Jvm.Cond.methodLink "ChoreAssignmentLaw" (136 : Nat) ({ cls := "ChoreAssignmentLaw", name := "addToColumn", desc := "(LChoreAssignment;II[J)I" } : Jvm.MethodName)) ∈ lw_all := lw_g (lw_at lw_m5 103 rfl) rfl
theorem q1119 : (Jvm.Cond.static ({ cls := "ChoreAssignmentLaw", name := "addToColumn", desc := "(LChoreAssignment;II[J)I" } : Jvm.MethodName)) ∈ lw_all := lw_g (lw_at lw_m5 104 rfl) rfl
theorem q1120 : (Jvm.Cond.codeWith ({ cls := "ChoreAssignmentLaw", name := "addToColumn", desc := "(LChoreAssignment;II[J)I" } : Jvm.MethodName) method_10_code (5 : Nat) (Option.some Jvm.ClassFile.FieldType.int) [((0 : Nat), (10 : Nat), (13 : Nat), (19 : Nat)), ((0 : Nat), (10 : Nat), (17 : Nat), (13 : Nat)), ((0 : Nat), (10 : Nat), (21 : Nat), (38 : Nat))]) ∈ lw_all := lw_g (lw_at lw_m5 105 rfl) rfl
theorem q1121 : (Jvm.Cond.methodLink "ChoreAssignmentLaw" (40 : Nat) ({ cls := "ChoreAssignment", name := "addToColumn", desc := "(II)I" } : Jvm.MethodName)) ∈ lw_all := lw_g (lw_at lw_m5 106 rfl) rfl
theorem q1129 : (Jvm.Cond.methodLink "ChoreAssignmentLaw" (139 : Nat) ({ cls := "ChoreAssignmentLaw", name := "swapRows", desc := "(LChoreAssignment;II[J)I" } : Jvm.MethodName)) ∈ lw_all := lw_g (lw_at lw_m5 114 rfl) rfl
theorem q1130 : (Jvm.Cond.static ({ cls := "ChoreAssignmentLaw", name := "swapRows", desc := "(LChoreAssignment;II[J)I" } : Jvm.MethodName)) ∈ lw_all := lw_g (lw_at lw_m5 115 rfl) rfl
theorem q1131 : (Jvm.Cond.codeWith ({ cls := "ChoreAssignmentLaw", name := "swapRows", desc := "(LChoreAssignment;II[J)I" } : Jvm.MethodName) method_11_code (5 : Nat) (Option.some Jvm.ClassFile.FieldType.int) [((0 : Nat), (10 : Nat), (13 : Nat), (19 : Nat))]) ∈ lw_all := lw_g (lw_at lw_m5 116 rfl) rfl
theorem q1132 : (Jvm.Cond.methodLink "ChoreAssignmentLaw" (43 : Nat) ({ cls := "ChoreAssignment", name := "swapRows", desc := "(II)I" } : Jvm.MethodName)) ∈ lw_all := lw_g (lw_at lw_m5 117 rfl) rfl
theorem q1359 : (Jvm.Cond.methodLink "ChoreAssignmentLaw" (142 : Nat) ({ cls := "ChoreAssignmentLaw", name := "swapColumns", desc := "(LChoreAssignment;II[J)I" } : Jvm.MethodName)) ∈ lw_all := lw_g (lw_at lw_m6 104 rfl) rfl
theorem q1360 : (Jvm.Cond.static ({ cls := "ChoreAssignmentLaw", name := "swapColumns", desc := "(LChoreAssignment;II[J)I" } : Jvm.MethodName)) ∈ lw_all := lw_g (lw_at lw_m6 105 rfl) rfl
theorem q1361 : (Jvm.Cond.codeWith ({ cls := "ChoreAssignmentLaw", name := "swapColumns", desc := "(LChoreAssignment;II[J)I" } : Jvm.MethodName) method_12_code (5 : Nat) (Option.some Jvm.ClassFile.FieldType.int) [((0 : Nat), (10 : Nat), (13 : Nat), (19 : Nat))]) ∈ lw_all := lw_g (lw_at lw_m6 106 rfl) rfl
theorem q1362 : (Jvm.Cond.methodLink "ChoreAssignmentLaw" (46 : Nat) ({ cls := "ChoreAssignment", name := "swapColumns", desc := "(II)I" } : Jvm.MethodName)) ∈ lw_all := lw_g (lw_at lw_m6 107 rfl) rfl
theorem q1366 : (Jvm.Cond.methodLink "ChoreAssignmentLaw" (145 : Nat) ({ cls := "ChoreAssignmentLaw", name := "transpose", desc := "(LChoreAssignment;[J)I" } : Jvm.MethodName)) ∈ lw_all := lw_g (lw_at lw_m6 111 rfl) rfl
theorem q1367 : (Jvm.Cond.static ({ cls := "ChoreAssignmentLaw", name := "transpose", desc := "(LChoreAssignment;[J)I" } : Jvm.MethodName)) ∈ lw_all := lw_g (lw_at lw_m6 112 rfl) rfl
theorem q1368 : (Jvm.Cond.codeWith ({ cls := "ChoreAssignmentLaw", name := "transpose", desc := "(LChoreAssignment;[J)I" } : Jvm.MethodName) method_13_code (3 : Nat) (Option.some Jvm.ClassFile.FieldType.int) [((0 : Nat), (8 : Nat), (11 : Nat), (38 : Nat))]) ∈ lw_all := lw_g (lw_at lw_m6 113 rfl) rfl
theorem q1369 : (Jvm.Cond.methodLink "ChoreAssignmentLaw" (49 : Nat) ({ cls := "ChoreAssignment", name := "transpose", desc := "()I" } : Jvm.MethodName)) ∈ lw_all := lw_g (lw_at lw_m6 114 rfl) rfl
theorem q1373 : (Jvm.Cond.methodLink "ChoreAssignmentLaw" (185 : Nat) ({ cls := "ChoreAssignmentLaw", name := "assigned", desc := "(LChoreAssignment;I[J)I" } : Jvm.MethodName)) ∈ lw_all := lw_g (lw_at lw_m6 118 rfl) rfl
theorem q1374 : (Jvm.Cond.static ({ cls := "ChoreAssignmentLaw", name := "assigned", desc := "(LChoreAssignment;I[J)I" } : Jvm.MethodName)) ∈ lw_all := lw_g (lw_at lw_m6 119 rfl) rfl
theorem q1375 : (Jvm.Cond.codeWith ({ cls := "ChoreAssignmentLaw", name := "assigned", desc := "(LChoreAssignment;I[J)I" } : Jvm.MethodName) method_14_code (4 : Nat) (Option.some Jvm.ClassFile.FieldType.int) [((0 : Nat), (9 : Nat), (12 : Nat), (19 : Nat))]) ∈ lw_all := lw_g (lw_at lw_m6 120 rfl) rfl
theorem q1376 : (Jvm.Cond.methodLink "ChoreAssignmentLaw" (53 : Nat) ({ cls := "ChoreAssignment", name := "assigned", desc := "(I)I" } : Jvm.MethodName)) ∈ lw_all := lw_g (lw_at lw_m6 121 rfl) rfl
theorem q1380 : (Jvm.Cond.methodLink "ChoreAssignmentLaw" (193 : Nat) ({ cls := "ChoreAssignmentLaw", name := "rowPotential", desc := "(LChoreAssignment;I[J)I" } : Jvm.MethodName)) ∈ lw_all := lw_g (lw_at lw_m6 125 rfl) rfl
theorem q1381 : (Jvm.Cond.static ({ cls := "ChoreAssignmentLaw", name := "rowPotential", desc := "(LChoreAssignment;I[J)I" } : Jvm.MethodName)) ∈ lw_all := lw_g (lw_at lw_m6 126 rfl) rfl
theorem q1382 : (Jvm.Cond.codeWith ({ cls := "ChoreAssignmentLaw", name := "rowPotential", desc := "(LChoreAssignment;I[J)I" } : Jvm.MethodName) method_15_code (4 : Nat) (Option.some Jvm.ClassFile.FieldType.int) [((0 : Nat), (9 : Nat), (12 : Nat), (19 : Nat))]) ∈ lw_all := lw_g (lw_at lw_m6 127 rfl) rfl
theorem q1383 : (Jvm.Cond.methodLink "ChoreAssignmentLaw" (57 : Nat) ({ cls := "ChoreAssignment", name := "rowPotential", desc := "(I)I" } : Jvm.MethodName)) ∈ lw_all := lw_g (lw_at lw_m6 128 rfl) rfl
theorem q1387 : (Jvm.Cond.methodLink "ChoreAssignmentLaw" (196 : Nat) ({ cls := "ChoreAssignmentLaw", name := "columnPotential", desc := "(LChoreAssignment;I[J)I" } : Jvm.MethodName)) ∈ lw_all := lw_g (lw_at lw_m6 132 rfl) rfl
theorem q1388 : (Jvm.Cond.static ({ cls := "ChoreAssignmentLaw", name := "columnPotential", desc := "(LChoreAssignment;I[J)I" } : Jvm.MethodName)) ∈ lw_all := lw_g (lw_at lw_m6 133 rfl) rfl
theorem q1389 : (Jvm.Cond.codeWith ({ cls := "ChoreAssignmentLaw", name := "columnPotential", desc := "(LChoreAssignment;I[J)I" } : Jvm.MethodName) method_16_code (4 : Nat) (Option.some Jvm.ClassFile.FieldType.int) [((0 : Nat), (9 : Nat), (12 : Nat), (19 : Nat))]) ∈ lw_all := lw_g (lw_at lw_m6 134 rfl) rfl
theorem q1390 : (Jvm.Cond.methodLink "ChoreAssignmentLaw" (60 : Nat) ({ cls := "ChoreAssignment", name := "columnPotential", desc := "(I)I" } : Jvm.MethodName)) ∈ lw_all := lw_g (lw_at lw_m6 135 rfl) rfl
theorem q1394 : (Jvm.Cond.methodLink "ChoreAssignmentLaw" (199 : Nat) ({ cls := "ChoreAssignmentLaw", name := "reducedCost", desc := "(LChoreAssignment;II[J)I" } : Jvm.MethodName)) ∈ lw_all := lw_g (lw_at lw_m6 139 rfl) rfl
theorem q1395 : (Jvm.Cond.static ({ cls := "ChoreAssignmentLaw", name := "reducedCost", desc := "(LChoreAssignment;II[J)I" } : Jvm.MethodName)) ∈ lw_all := lw_g (lw_at lw_m6 140 rfl) rfl
theorem q1396 : (Jvm.Cond.codeWith ({ cls := "ChoreAssignmentLaw", name := "reducedCost", desc := "(LChoreAssignment;II[J)I" } : Jvm.MethodName) method_17_code (5 : Nat) (Option.some Jvm.ClassFile.FieldType.int) [((0 : Nat), (10 : Nat), (13 : Nat), (19 : Nat))]) ∈ lw_all := lw_g (lw_at lw_m6 141 rfl) rfl
theorem q1397 : (Jvm.Cond.methodLink "ChoreAssignmentLaw" (63 : Nat) ({ cls := "ChoreAssignment", name := "reducedCost", desc := "(II)I" } : Jvm.MethodName)) ∈ lw_all := lw_g (lw_at lw_m6 142 rfl) rfl
theorem q1401 : (Jvm.Cond.methodLink "ChoreAssignmentLaw" (202 : Nat) ({ cls := "ChoreAssignmentLaw", name := "minimumWith", desc := "(LChoreAssignment;II[J)I" } : Jvm.MethodName)) ∈ lw_all := lw_g (lw_at lw_m6 146 rfl) rfl
theorem q1402 : (Jvm.Cond.static ({ cls := "ChoreAssignmentLaw", name := "minimumWith", desc := "(LChoreAssignment;II[J)I" } : Jvm.MethodName)) ∈ lw_all := lw_g (lw_at lw_m6 147 rfl) rfl
theorem q1403 : (Jvm.Cond.codeWith ({ cls := "ChoreAssignmentLaw", name := "minimumWith", desc := "(LChoreAssignment;II[J)I" } : Jvm.MethodName) method_18_code (5 : Nat) (Option.some Jvm.ClassFile.FieldType.int) [((0 : Nat), (10 : Nat), (13 : Nat), (19 : Nat))]) ∈ lw_all := lw_g (lw_at lw_m6 148 rfl) rfl
theorem q1404 : (Jvm.Cond.methodLink "ChoreAssignmentLaw" (66 : Nat) ({ cls := "ChoreAssignment", name := "minimumWith", desc := "(II)I" } : Jvm.MethodName)) ∈ lw_all := lw_g (lw_at lw_m6 149 rfl) rfl
theorem q1405 : (Jvm.Cond.methodLink "ChoreAssignmentLaw" (205 : Nat) ({ cls := "ChoreAssignmentLaw", name := "minimumWithout", desc := "(LChoreAssignment;II[J)I" } : Jvm.MethodName)) ∈ lw_all := lw_g (lw_at lw_m6 150 rfl) rfl
theorem q1406 : (Jvm.Cond.static ({ cls := "ChoreAssignmentLaw", name := "minimumWithout", desc := "(LChoreAssignment;II[J)I" } : Jvm.MethodName)) ∈ lw_all := lw_g (lw_at lw_m6 151 rfl) rfl
theorem q1407 : (Jvm.Cond.codeWith ({ cls := "ChoreAssignmentLaw", name := "minimumWithout", desc := "(LChoreAssignment;II[J)I" } : Jvm.MethodName) method_19_code (5 : Nat) (Option.some Jvm.ClassFile.FieldType.int) [((0 : Nat), (10 : Nat), (13 : Nat), (19 : Nat))]) ∈ lw_all := lw_g (lw_at lw_m6 152 rfl) rfl
theorem q1408 : (Jvm.Cond.methodLink "ChoreAssignmentLaw" (69 : Nat) ({ cls := "ChoreAssignment", name := "minimumWithout", desc := "(II)I" } : Jvm.MethodName)) ∈ lw_all := lw_g (lw_at lw_m6 153 rfl) rfl
theorem q1409 : (Jvm.Cond.methodLink "ChoreAssignmentLaw" (208 : Nat) ({ cls := "ChoreAssignmentLaw", name := "minimumIfCost", desc := "(LChoreAssignment;III[J)I" } : Jvm.MethodName)) ∈ lw_all := lw_g (lw_at lw_m6 154 rfl) rfl
theorem q1410 : (Jvm.Cond.static ({ cls := "ChoreAssignmentLaw", name := "minimumIfCost", desc := "(LChoreAssignment;III[J)I" } : Jvm.MethodName)) ∈ lw_all := lw_g (lw_at lw_m6 155 rfl) rfl
theorem q1411 : (Jvm.Cond.codeWith ({ cls := "ChoreAssignmentLaw", name := "minimumIfCost", desc := "(LChoreAssignment;III[J)I" } : Jvm.MethodName) method_20_code (6 : Nat) (Option.some Jvm.ClassFile.FieldType.int) [((0 : Nat), (12 : Nat), (15 : Nat), (19 : Nat)), ((0 : Nat), (12 : Nat), (19 : Nat), (13 : Nat))]) ∈ lw_all := lw_g (lw_at lw_m6 156 rfl) rfl
theorem q1412 : (Jvm.Cond.methodLink "ChoreAssignmentLaw" (72 : Nat) ({ cls := "ChoreAssignment", name := "minimumIfCost", desc := "(III)I" } : Jvm.MethodName)) ∈ lw_all := lw_g (lw_at lw_m6 157 rfl) rfl
theorem q1416 : (Jvm.Cond.methodLink "ChoreAssignmentLaw" (223 : Nat) ({ cls := "ChoreAssignmentLaw", name := "fits", desc := "(LChoreAssignment;I[J)I" } : Jvm.MethodName)) ∈ lw_all := lw_g (lw_at lw_m6 161 rfl) rfl
theorem q1417 : (Jvm.Cond.static ({ cls := "ChoreAssignmentLaw", name := "fits", desc := "(LChoreAssignment;I[J)I" } : Jvm.MethodName)) ∈ lw_all := lw_g (lw_at lw_m6 162 rfl) rfl
theorem q1418 : (Jvm.Cond.codeWith ({ cls := "ChoreAssignmentLaw", name := "fits", desc := "(LChoreAssignment;I[J)I" } : Jvm.MethodName) method_21_code (4 : Nat) (Option.some Jvm.ClassFile.FieldType.int) [((0 : Nat), (16 : Nat), (19 : Nat), (13 : Nat))]) ∈ lw_all := lw_g (lw_at lw_m6 163 rfl) rfl
theorem q1419 : (Jvm.Cond.methodLink "ChoreAssignmentLaw" (75 : Nat) ({ cls := "ChoreAssignment", name := "fits", desc := "(I)Z" } : Jvm.MethodName)) ∈ lw_all := lw_g (lw_at lw_m6 164 rfl) rfl
theorem q1424 : (Jvm.Cond.methodLink "ChoreAssignmentLaw" (226 : Nat) ({ cls := "ChoreAssignmentLaw", name := "countWithin", desc := "(LChoreAssignment;I[J)I" } : Jvm.MethodName)) ∈ lw_all := lw_g (lw_at lw_m6 169 rfl) rfl
theorem q1425 : (Jvm.Cond.static ({ cls := "ChoreAssignmentLaw", name := "countWithin", desc := "(LChoreAssignment;I[J)I" } : Jvm.MethodName)) ∈ lw_all := lw_g (lw_at lw_m6 170 rfl) rfl
theorem q1426 : (Jvm.Cond.codeWith ({ cls := "ChoreAssignmentLaw", name := "countWithin", desc := "(LChoreAssignment;I[J)I" } : Jvm.MethodName) method_22_code (4 : Nat) (Option.some Jvm.ClassFile.FieldType.int) [((0 : Nat), (9 : Nat), (12 : Nat), (13 : Nat))]) ∈ lw_all := lw_g (lw_at lw_m6 171 rfl) rfl
theorem q1427 : (Jvm.Cond.methodLink "ChoreAssignmentLaw" (79 : Nat) ({ cls := "ChoreAssignment", name := "countWithin", desc := "(I)I" } : Jvm.MethodName)) ∈ lw_all := lw_g (lw_at lw_m6 172 rfl) rfl
theorem q1436 : (Jvm.Cond.methodLink "ChoreAssignmentLaw" (229 : Nat) ({ cls := "ChoreAssignmentLaw", name := "sumOf", desc := "(LChoreAssignment;I[J)I" } : Jvm.MethodName)) ∈ lw_all := lw_g (lw_at lw_m6 181 rfl) rfl
theorem q1437 : (Jvm.Cond.static ({ cls := "ChoreAssignmentLaw", name := "sumOf", desc := "(LChoreAssignment;I[J)I" } : Jvm.MethodName)) ∈ lw_all := lw_g (lw_at lw_m6 182 rfl) rfl
theorem q1438 : (Jvm.Cond.codeWith ({ cls := "ChoreAssignmentLaw", name := "sumOf", desc := "(LChoreAssignment;I[J)I" } : Jvm.MethodName) method_23_code (4 : Nat) (Option.some Jvm.ClassFile.FieldType.int) [((0 : Nat), (9 : Nat), (12 : Nat), (13 : Nat))]) ∈ lw_all := lw_g (lw_at lw_m6 183 rfl) rfl
theorem q1439 : (Jvm.Cond.methodLink "ChoreAssignmentLaw" (82 : Nat) ({ cls := "ChoreAssignment", name := "sumOf", desc := "(I)I" } : Jvm.MethodName)) ∈ lw_all := lw_g (lw_at lw_m6 184 rfl) rfl
theorem q1443 : (Jvm.Cond.methodLink "ChoreAssignmentLaw" (232 : Nat) ({ cls := "ChoreAssignmentLaw", name := "startEnumeration", desc := "(LChoreAssignment;[J)I" } : Jvm.MethodName)) ∈ lw_all := lw_g (lw_at lw_m6 188 rfl) rfl
theorem q1444 : (Jvm.Cond.static ({ cls := "ChoreAssignmentLaw", name := "startEnumeration", desc := "(LChoreAssignment;[J)I" } : Jvm.MethodName)) ∈ lw_all := lw_g (lw_at lw_m6 189 rfl) rfl
theorem q1445 : (Jvm.Cond.codeWith ({ cls := "ChoreAssignmentLaw", name := "startEnumeration", desc := "(LChoreAssignment;[J)I" } : Jvm.MethodName) method_24_code (3 : Nat) (Option.some Jvm.ClassFile.FieldType.int) [((0 : Nat), (8 : Nat), (11 : Nat), (38 : Nat))]) ∈ lw_all := lw_g (lw_at lw_m6 190 rfl) rfl
theorem q1446 : (Jvm.Cond.methodLink "ChoreAssignmentLaw" (85 : Nat) ({ cls := "ChoreAssignment", name := "startEnumeration", desc := "()I" } : Jvm.MethodName)) ∈ lw_all := lw_g (lw_at lw_m6 191 rfl) rfl
theorem q1476 : (Jvm.Cond.methodLink "ChoreAssignmentLaw" (235 : Nat) ({ cls := "ChoreAssignmentLaw", name := "nextSum", desc := "(LChoreAssignment;[J)I" } : Jvm.MethodName)) ∈ lw_all := lw_g (lw_at lw_m6 221 rfl) rfl
theorem q1477 : (Jvm.Cond.static ({ cls := "ChoreAssignmentLaw", name := "nextSum", desc := "(LChoreAssignment;[J)I" } : Jvm.MethodName)) ∈ lw_all := lw_g (lw_at lw_m6 222 rfl) rfl
theorem q1478 : (Jvm.Cond.codeWith ({ cls := "ChoreAssignmentLaw", name := "nextSum", desc := "(LChoreAssignment;[J)I" } : Jvm.MethodName) method_25_code (3 : Nat) (Option.some Jvm.ClassFile.FieldType.int) [((0 : Nat), (8 : Nat), (11 : Nat), (38 : Nat)), ((0 : Nat), (8 : Nat), (14 : Nat), (91 : Nat))]) ∈ lw_all := lw_g (lw_at lw_m6 223 rfl) rfl
theorem q1479 : (Jvm.Cond.classLink "ChoreAssignmentLaw" (91 : Nat) "java/util/NoSuchElementException") ∈ lw_all := lw_g (lw_at lw_m6 224 rfl) rfl
theorem q1480 : (Jvm.Cond.methodLink "ChoreAssignmentLaw" (88 : Nat) ({ cls := "ChoreAssignment", name := "nextSum", desc := "()I" } : Jvm.MethodName)) ∈ lw_all := lw_g (lw_at lw_m6 225 rfl) rfl
theorem q1498 : (Jvm.Cond.methodLink "ChoreAssignmentLaw" (238 : Nat) ({ cls := "ChoreAssignmentLaw", name := "currentColumn", desc := "(LChoreAssignment;I[J)I" } : Jvm.MethodName)) ∈ lw_all := lw_g (lw_at lw_m7 3 rfl) rfl
theorem q1499 : (Jvm.Cond.static ({ cls := "ChoreAssignmentLaw", name := "currentColumn", desc := "(LChoreAssignment;I[J)I" } : Jvm.MethodName)) ∈ lw_all := lw_g (lw_at lw_m7 4 rfl) rfl
theorem q1500 : (Jvm.Cond.codeWith ({ cls := "ChoreAssignmentLaw", name := "currentColumn", desc := "(LChoreAssignment;I[J)I" } : Jvm.MethodName) method_26_code (4 : Nat) (Option.some Jvm.ClassFile.FieldType.int) [((0 : Nat), (9 : Nat), (12 : Nat), (19 : Nat)), ((0 : Nat), (9 : Nat), (15 : Nat), (38 : Nat))]) ∈ lw_all := lw_g (lw_at lw_m7 5 rfl) rfl
theorem q1501 : (Jvm.Cond.methodLink "ChoreAssignmentLaw" (93 : Nat) ({ cls := "ChoreAssignment", name := "currentColumn", desc := "(I)I" } : Jvm.MethodName)) ∈ lw_all := lw_g (lw_at lw_m7 6 rfl) rfl
theorem q1505 : (Jvm.Cond.methodLink "ChoreAssignmentLaw" (250 : Nat) ({ cls := "ChoreAssignmentLaw", name := "shareOf", desc := "(LChoreAssignment;I[D)I" } : Jvm.MethodName)) ∈ lw_all := lw_g (lw_at lw_m7 10 rfl) rfl
theorem q1506 : (Jvm.Cond.static ({ cls := "ChoreAssignmentLaw", name := "shareOf", desc := "(LChoreAssignment;I[D)I" } : Jvm.MethodName)) ∈ lw_all := lw_g (lw_at lw_m7 11 rfl) rfl
theorem q1507 : (Jvm.Cond.codeWith ({ cls := "ChoreAssignmentLaw", name := "shareOf", desc := "(LChoreAssignment;I[D)I" } : Jvm.MethodName) method_27_code (4 : Nat) (Option.some Jvm.ClassFile.FieldType.int) [((0 : Nat), (9 : Nat), (12 : Nat), (19 : Nat))]) ∈ lw_all := lw_g (lw_at lw_m7 12 rfl) rfl
theorem q1508 : (Jvm.Cond.methodLink "ChoreAssignmentLaw" (96 : Nat) ({ cls := "ChoreAssignment", name := "shareOf", desc := "(I)F" } : Jvm.MethodName)) ∈ lw_all := lw_g (lw_at lw_m7 13 rfl) rfl
theorem q1512 : (Jvm.Cond.classLink "ChoreAssignmentLaw" (101 : Nat) "ChoreAssignmentModel") ∈ lw_all := lw_g (lw_at lw_m7 17 rfl) rfl
theorem q1514 : (Jvm.Cond.methodLink "ChoreAssignmentLaw" (103 : Nat) ({ cls := "ChoreAssignmentModel", name := "<init>", desc := "()V" } : Jvm.MethodName)) ∈ lw_all := lw_g (lw_at lw_m7 19 rfl) rfl
theorem q1591 : (Jvm.Cond.methodLink "ChoreAssignmentLaw" (110 : Nat) ({ cls := "ChoreAssignmentModel", name := "thrown", desc := "()I" } : Jvm.MethodName)) ∈ lw_all := lw_g (lw_at lw_m7 96 rfl) rfl
theorem q1595 : (Jvm.Cond.methodLink "ChoreAssignmentLaw" (109 : Nat) ({ cls := "ChoreAssignmentModel", name := "resize", desc := "(II)I" } : Jvm.MethodName)) ∈ lw_all := lw_g (lw_at lw_m7 100 rfl) rfl
theorem q1607 : (Jvm.Cond.methodLink "ChoreAssignmentLaw" (116 : Nat) ({ cls := "ChoreAssignmentModel", name := "setCost", desc := "(III)I" } : Jvm.MethodName)) ∈ lw_all := lw_g (lw_at lw_m7 112 rfl) rfl
theorem q1620 : (Jvm.Cond.methodLink "ChoreAssignmentLaw" (122 : Nat) ({ cls := "ChoreAssignmentModel", name := "setRow", desc := "(IJ)I" } : Jvm.MethodName)) ∈ lw_all := lw_g (lw_at lw_m7 125 rfl) rfl
theorem q1625 : (Jvm.Cond.methodLink "ChoreAssignmentLaw" (125 : Nat) ({ cls := "ChoreAssignmentModel", name := "fill", desc := "(II)I" } : Jvm.MethodName)) ∈ lw_all := lw_g (lw_at lw_m7 130 rfl) rfl
theorem q1630 : (Jvm.Cond.methodLink "ChoreAssignmentLaw" (129 : Nat) ({ cls := "ChoreAssignmentModel", name := "setForbidden", desc := "(IIZ)I" } : Jvm.MethodName)) ∈ lw_all := lw_g (lw_at lw_m7 135 rfl) rfl
theorem q1638 : (Jvm.Cond.methodLink "ChoreAssignmentLaw" (132 : Nat) ({ cls := "ChoreAssignmentModel", name := "costAt", desc := "(II)I" } : Jvm.MethodName)) ∈ lw_all := lw_g (lw_at lw_m7 143 rfl) rfl
theorem q1646 : (Jvm.Cond.methodLink "ChoreAssignmentLaw" (135 : Nat) ({ cls := "ChoreAssignmentModel", name := "addToRow", desc := "(II)I" } : Jvm.MethodName)) ∈ lw_all := lw_g (lw_at lw_m7 151 rfl) rfl
theorem q1659 : (Jvm.Cond.methodLink "ChoreAssignmentLaw" (138 : Nat) ({ cls := "ChoreAssignmentModel", name := "addToColumn", desc := "(II)I" } : Jvm.MethodName)) ∈ lw_all := lw_g (lw_at lw_m7 164 rfl) rfl
theorem q1667 : (Jvm.Cond.methodLink "ChoreAssignmentLaw" (141 : Nat) ({ cls := "ChoreAssignmentModel", name := "swapRows", desc := "(II)I" } : Jvm.MethodName)) ∈ lw_all := lw_g (lw_at lw_m7 172 rfl) rfl
theorem q1675 : (Jvm.Cond.methodLink "ChoreAssignmentLaw" (144 : Nat) ({ cls := "ChoreAssignmentModel", name := "swapColumns", desc := "(II)I" } : Jvm.MethodName)) ∈ lw_all := lw_g (lw_at lw_m7 180 rfl) rfl
theorem q1679 : (Jvm.Cond.methodLink "ChoreAssignmentLaw" (148 : Nat) ({ cls := "ChoreAssignmentModel", name := "transpose", desc := "()I" } : Jvm.MethodName)) ∈ lw_all := lw_g (lw_at lw_m7 184 rfl) rfl
theorem q1683 : (Jvm.Cond.methodLink "ChoreAssignmentLaw" (152 : Nat) ({ cls := "ChoreAssignmentModel", name := "save", desc := "()I" } : Jvm.MethodName)) ∈ lw_all := lw_g (lw_at lw_m7 188 rfl) rfl
theorem q1691 : (Jvm.Cond.methodLink "ChoreAssignmentLaw" (156 : Nat) ({ cls := "ChoreAssignmentModel", name := "restore", desc := "()I" } : Jvm.MethodName)) ∈ lw_all := lw_g (lw_at lw_m7 196 rfl) rfl
theorem q1695 : (Jvm.Cond.methodLink "ChoreAssignmentLaw" (160 : Nat) ({ cls := "ChoreAssignmentModel", name := "distance", desc := "()I" } : Jvm.MethodName)) ∈ lw_all := lw_g (lw_at lw_m7 200 rfl) rfl
theorem q1703 : (Jvm.Cond.methodLink "ChoreAssignmentLaw" (164 : Nat) ({ cls := "ChoreAssignmentModel", name := "rows", desc := "()I" } : Jvm.MethodName)) ∈ lw_all := lw_g (lw_at lw_m7 208 rfl) rfl
theorem q1707 : (Jvm.Cond.methodLink "ChoreAssignmentLaw" (168 : Nat) ({ cls := "ChoreAssignmentModel", name := "columns", desc := "()I" } : Jvm.MethodName)) ∈ lw_all := lw_g (lw_at lw_m7 212 rfl) rfl
theorem q1711 : (Jvm.Cond.methodLink "ChoreAssignmentLaw" (172 : Nat) ({ cls := "ChoreAssignmentModel", name := "forbiddenCount", desc := "()I" } : Jvm.MethodName)) ∈ lw_all := lw_g (lw_at lw_m7 216 rfl) rfl
theorem q1715 : (Jvm.Cond.methodLink "ChoreAssignmentLaw" (176 : Nat) ({ cls := "ChoreAssignmentModel", name := "totalCost", desc := "()I" } : Jvm.MethodName)) ∈ lw_all := lw_g (lw_at lw_m7 220 rfl) rfl
theorem q1719 : (Jvm.Cond.methodLink "ChoreAssignmentLaw" (180 : Nat) ({ cls := "ChoreAssignmentModel", name := "minimum", desc := "()I" } : Jvm.MethodName)) ∈ lw_all := lw_g (lw_at lw_m7 224 rfl) rfl
theorem q1759 : (Jvm.Cond.methodLink "ChoreAssignmentLaw" (184 : Nat) ({ cls := "ChoreAssignmentModel", name := "savedMinimum", desc := "()I" } : Jvm.MethodName)) ∈ lw_all := lw_g (lw_at lw_m8 24 rfl) rfl
theorem q1763 : (Jvm.Cond.methodLink "ChoreAssignmentLaw" (188 : Nat) ({ cls := "ChoreAssignmentModel", name := "assigned", desc := "(I)I" } : Jvm.MethodName)) ∈ lw_all := lw_g (lw_at lw_m8 28 rfl) rfl
theorem q1767 : (Jvm.Cond.methodLink "ChoreAssignmentLaw" (192 : Nat) ({ cls := "ChoreAssignmentModel", name := "optimalCount", desc := "()I" } : Jvm.MethodName)) ∈ lw_all := lw_g (lw_at lw_m8 32 rfl) rfl
theorem q1771 : (Jvm.Cond.methodLink "ChoreAssignmentLaw" (195 : Nat) ({ cls := "ChoreAssignmentModel", name := "rowPotential", desc := "(I)I" } : Jvm.MethodName)) ∈ lw_all := lw_g (lw_at lw_m8 36 rfl) rfl
theorem q1779 : (Jvm.Cond.methodLink "ChoreAssignmentLaw" (198 : Nat) ({ cls := "ChoreAssignmentModel", name := "columnPotential", desc := "(I)I" } : Jvm.MethodName)) ∈ lw_all := lw_g (lw_at lw_m8 44 rfl) rfl
theorem q1783 : (Jvm.Cond.methodLink "ChoreAssignmentLaw" (201 : Nat) ({ cls := "ChoreAssignmentModel", name := "reducedCost", desc := "(II)I" } : Jvm.MethodName)) ∈ lw_all := lw_g (lw_at lw_m8 48 rfl) rfl
theorem q1791 : (Jvm.Cond.methodLink "ChoreAssignmentLaw" (204 : Nat) ({ cls := "ChoreAssignmentModel", name := "minimumWith", desc := "(II)I" } : Jvm.MethodName)) ∈ lw_all := lw_g (lw_at lw_m8 56 rfl) rfl
theorem q1795 : (Jvm.Cond.methodLink "ChoreAssignmentLaw" (207 : Nat) ({ cls := "ChoreAssignmentModel", name := "minimumWithout", desc := "(II)I" } : Jvm.MethodName)) ∈ lw_all := lw_g (lw_at lw_m8 60 rfl) rfl
theorem q1803 : (Jvm.Cond.methodLink "ChoreAssignmentLaw" (210 : Nat) ({ cls := "ChoreAssignmentModel", name := "minimumIfCost", desc := "(III)I" } : Jvm.MethodName)) ∈ lw_all := lw_g (lw_at lw_m8 68 rfl) rfl
theorem q1807 : (Jvm.Cond.methodLink "ChoreAssignmentLaw" (214 : Nat) ({ cls := "ChoreAssignmentModel", name := "secondBest", desc := "()I" } : Jvm.MethodName)) ∈ lw_all := lw_g (lw_at lw_m8 72 rfl) rfl
theorem q1811 : (Jvm.Cond.methodLink "ChoreAssignmentLaw" (218 : Nat) ({ cls := "ChoreAssignmentModel", name := "maximum", desc := "()I" } : Jvm.MethodName)) ∈ lw_all := lw_g (lw_at lw_m8 76 rfl) rfl
theorem q1815 : (Jvm.Cond.methodLink "ChoreAssignmentLaw" (222 : Nat) ({ cls := "ChoreAssignmentModel", name := "bottleneck", desc := "()I" } : Jvm.MethodName)) ∈ lw_all := lw_g (lw_at lw_m8 80 rfl) rfl
theorem q1819 : (Jvm.Cond.methodLink "ChoreAssignmentLaw" (225 : Nat) ({ cls := "ChoreAssignmentModel", name := "fits", desc := "(I)Z" } : Jvm.MethodName)) ∈ lw_all := lw_g (lw_at lw_m8 84 rfl) rfl
theorem q1824 : (Jvm.Cond.methodLink "ChoreAssignmentLaw" (228 : Nat) ({ cls := "ChoreAssignmentModel", name := "countWithin", desc := "(I)I" } : Jvm.MethodName)) ∈ lw_all := lw_g (lw_at lw_m8 89 rfl) rfl
theorem q1829 : (Jvm.Cond.methodLink "ChoreAssignmentLaw" (231 : Nat) ({ cls := "ChoreAssignmentModel", name := "sumOf", desc := "(I)I" } : Jvm.MethodName)) ∈ lw_all := lw_g (lw_at lw_m8 94 rfl) rfl
theorem q1833 : (Jvm.Cond.methodLink "ChoreAssignmentLaw" (234 : Nat) ({ cls := "ChoreAssignmentModel", name := "startEnumeration", desc := "()I" } : Jvm.MethodName)) ∈ lw_all := lw_g (lw_at lw_m8 98 rfl) rfl
theorem q1837 : (Jvm.Cond.methodLink "ChoreAssignmentLaw" (237 : Nat) ({ cls := "ChoreAssignmentModel", name := "nextSum", desc := "()I" } : Jvm.MethodName)) ∈ lw_all := lw_g (lw_at lw_m8 102 rfl) rfl
theorem q1841 : (Jvm.Cond.methodLink "ChoreAssignmentLaw" (240 : Nat) ({ cls := "ChoreAssignmentModel", name := "currentColumn", desc := "(I)I" } : Jvm.MethodName)) ∈ lw_all := lw_g (lw_at lw_m8 106 rfl) rfl
theorem q1845 : (Jvm.Cond.methodLink "ChoreAssignmentLaw" (244 : Nat) ({ cls := "ChoreAssignmentModel", name := "stepsMade", desc := "()I" } : Jvm.MethodName)) ∈ lw_all := lw_g (lw_at lw_m8 110 rfl) rfl
theorem q1849 : (Jvm.Cond.methodLink "ChoreAssignmentLaw" (249 : Nat) ({ cls := "ChoreAssignmentModel", name := "meanCost", desc := "()D" } : Jvm.MethodName)) ∈ lw_all := lw_g (lw_at lw_m8 114 rfl) rfl
theorem q1853 : (Jvm.Cond.methodLink "ChoreAssignmentLaw" (253 : Nat) ({ cls := "ChoreAssignmentModel", name := "shareOf", desc := "(I)F" } : Jvm.MethodName)) ∈ lw_all := lw_g (lw_at lw_m8 118 rfl) rfl
theorem q1857 : (Jvm.Cond.methodLink "ChoreAssignmentLaw" (258 : Nat) ({ cls := "ChoreAssignmentModel", name := "checksum", desc := "()J" } : Jvm.MethodName)) ∈ lw_all := lw_g (lw_at lw_m8 122 rfl) rfl
theorem q1863 : (Jvm.Cond.methodLink "ChoreAssignmentLaw" (263 : Nat) ({ cls := "ChoreAssignmentModel", name := "isSound", desc := "()Z" } : Jvm.MethodName)) ∈ lw_all := lw_g (lw_at lw_m8 128 rfl) rfl
theorem q1868 : (Jvm.Cond.constantLong "ChoreAssignmentLaw" (117 : Nat) (4294967295 : Int64)) ∈ lw_all := lw_g (lw_at lw_m8 133 rfl) rfl

/-! the law's own entry -/
set_option maxRecDepth 100000
abbrev cL_law : ByteArray := code
def dkwL_law_85 : List UInt8 := [132, 5, 4, 167, 247, 206, 4, 172]
abbrev dktL_law_85 : List UInt8 := dkwL_law_85 ++ []
def dkwL_law_84 : List UInt8 := [182, 1, 2, 148, 153, 0, 18, 3, 172, 43, 182, 1, 3, 44, 182, 1, 7, 159, 0, 5, 3, 172]
abbrev dktL_law_84 : List UInt8 := dkwL_law_84 ++ dktL_law_85
def dkwL_law_83 : List UInt8 := [49, 151, 153, 0, 11, 23, 7, 23, 7, 149, 154, 0, 5, 3, 172, 167, 0, 30, 43, 182, 0, 254, 44]
abbrev dktL_law_83 : List UInt8 := dkwL_law_83 ++ dktL_law_84
def dkwL_law_82 : List UInt8 := [172, 21, 6, 154, 0, 36, 25, 4, 3, 49, 23, 7, 141, 151, 153, 0, 25, 25, 4, 3, 49, 25, 4, 3]
abbrev dktL_law_82 : List UInt8 := dkwL_law_82 ++ dktL_law_83
def dkwL_law_81 : List UInt8 := [54, 6, 44, 42, 21, 5, 4, 96, 46, 182, 0, 253, 56, 7, 44, 182, 0, 110, 21, 6, 159, 0, 5, 3]
abbrev dktL_law_81 : List UInt8 := dkwL_law_81 ++ dktL_law_82
def dkwL_law_80 : List UInt8 := [24, 8, 151, 154, 0, 5, 3, 172, 167, 0, 108, 43, 42, 21, 5, 4, 96, 46, 25, 4, 184, 0, 250]
abbrev dktL_law_80 : List UInt8 := dkwL_law_80 ++ dktL_law_81
def dkwL_law_79 : List UInt8 := [182, 0, 249, 57, 8, 24, 6, 24, 8, 151, 153, 0, 21, 24, 6, 24, 6, 151, 153, 0, 11, 24, 8]
abbrev dktL_law_79 : List UInt8 := dkwL_law_79 ++ dktL_law_80
def dkwL_law_78 : List UInt8 := [167, 0, 162, 43, 182, 0, 241, 44, 182, 0, 244, 159, 0, 151, 3, 172, 43, 182, 0, 245, 57, 6, 44]
abbrev dktL_law_78 : List UInt8 := dkwL_law_78 ++ dktL_law_79
def dkwL_law_77 : List UInt8 := [159, 0, 5, 3, 172, 21, 6, 154, 0, 15, 45, 3, 47, 21, 7, 133, 148, 153, 0, 5, 3, 172]
abbrev dktL_law_77 : List UInt8 := dkwL_law_77 ++ dktL_law_78
def dkwL_law_76 : List UInt8 := [184, 0, 238, 54, 6, 44, 42, 21, 5, 4, 96, 46, 182, 0, 240, 54, 7, 44, 182, 0, 110, 21, 6]
abbrev dktL_law_76 : List UInt8 := dkwL_law_76 ++ dktL_law_77
def dkwL_law_75 : List UInt8 := [45, 3, 47, 21, 7, 133, 148, 153, 0, 5, 3, 172, 167, 0, 218, 43, 42, 21, 5, 4, 96, 46, 45]
abbrev dktL_law_75 : List UInt8 := dkwL_law_75 ++ dktL_law_76
def dkwL_law_74 : List UInt8 := [54, 6, 44, 182, 0, 237, 54, 7, 44, 182, 0, 110, 21, 6, 159, 0, 5, 3, 172, 21, 6, 154, 0, 15]
abbrev dktL_law_74 : List UInt8 := dkwL_law_74 ++ dktL_law_75
def dkwL_law_73 : List UInt8 := [154, 0, 15, 45, 3, 47, 21, 7, 133, 148, 153, 0, 5, 3, 172, 167, 1, 6, 43, 45, 184, 0, 235]
abbrev dktL_law_73 : List UInt8 := dkwL_law_73 ++ dktL_law_74
def dkwL_law_72 : List UInt8 := [184, 0, 232, 54, 6, 44, 182, 0, 234, 54, 7, 44, 182, 0, 110, 21, 6, 159, 0, 5, 3, 172, 21, 6]
abbrev dktL_law_72 : List UInt8 := dkwL_law_72 ++ dktL_law_73
def dkwL_law_71 : List UInt8 := [172, 21, 6, 154, 0, 15, 45, 3, 47, 21, 7, 133, 148, 153, 0, 5, 3, 172, 167, 1, 50, 43, 45]
abbrev dktL_law_71 : List UInt8 := dkwL_law_71 ++ dktL_law_72
def dkwL_law_70 : List UInt8 := [54, 6, 44, 42, 21, 5, 4, 96, 46, 182, 0, 231, 54, 7, 44, 182, 0, 110, 21, 6, 159, 0, 5, 3]
abbrev dktL_law_70 : List UInt8 := dkwL_law_70 ++ dktL_law_71
def dkwL_law_69 : List UInt8 := [21, 7, 133, 148, 153, 0, 5, 3, 172, 167, 1, 106, 43, 42, 21, 5, 4, 96, 46, 45, 184, 0, 229]
abbrev dktL_law_69 : List UInt8 := dkwL_law_69 ++ dktL_law_70
def dkwL_law_68 : List UInt8 := [182, 0, 228, 54, 7, 44, 182, 0, 110, 21, 6, 159, 0, 5, 3, 172, 21, 6, 154, 0, 15, 45, 3, 47]
abbrev dktL_law_68 : List UInt8 := dkwL_law_68 ++ dktL_law_69
def dkwL_law_67 : List UInt8 := [172, 167, 1, 162, 43, 42, 21, 5, 4, 96, 46, 45, 184, 0, 226, 54, 6, 44, 42, 21, 5, 4, 96, 46]
abbrev dktL_law_67 : List UInt8 := dkwL_law_67 ++ dktL_law_68
def dkwL_law_66 : List UInt8 := [172, 21, 6, 154, 0, 22, 45, 3, 47, 21, 7, 153, 0, 7, 10, 167, 0, 4, 9, 148, 153, 0, 5, 3]
abbrev dktL_law_66 : List UInt8 := dkwL_law_66 ++ dktL_law_67
def dkwL_law_65 : List UInt8 := [54, 6, 44, 42, 21, 5, 4, 96, 46, 182, 0, 225, 54, 7, 44, 182, 0, 110, 21, 6, 159, 0, 5, 3]
abbrev dktL_law_65 : List UInt8 := dkwL_law_65 ++ dktL_law_66
def dkwL_law_64 : List UInt8 := [182, 0, 219, 44, 182, 0, 222, 159, 1, 227, 3, 172, 43, 42, 21, 5, 4, 96, 46, 45, 184, 0, 223]
abbrev dktL_law_64 : List UInt8 := dkwL_law_64 ++ dktL_law_65
def dkwL_law_63 : List UInt8 := [182, 0, 214, 159, 1, 253, 3, 172, 43, 182, 0, 215, 44, 182, 0, 218, 159, 1, 240, 3, 172, 43]
abbrev dktL_law_63 : List UInt8 := dkwL_law_63 ++ dktL_law_64
def dkwL_law_62 : List UInt8 := [154, 0, 15, 45, 3, 47, 21, 7, 133, 148, 153, 0, 5, 3, 172, 167, 2, 8, 43, 182, 0, 211, 44]
abbrev dktL_law_62 : List UInt8 := dkwL_law_62 ++ dktL_law_63
def dkwL_law_61 : List UInt8 := [21, 5, 6, 96, 46, 182, 0, 210, 54, 7, 44, 182, 0, 110, 21, 6, 159, 0, 5, 3, 172, 21, 6]
abbrev dktL_law_61 : List UInt8 := dkwL_law_61 ++ dktL_law_62
def dkwL_law_60 : List UInt8 := [6, 96, 46, 45, 184, 0, 208, 54, 6, 44, 42, 21, 5, 4, 96, 46, 42, 21, 5, 5, 96, 46, 42]
abbrev dktL_law_60 : List UInt8 := dkwL_law_60 ++ dktL_law_61
def dkwL_law_59 : List UInt8 := [153, 0, 5, 3, 172, 167, 2, 88, 43, 42, 21, 5, 4, 96, 46, 42, 21, 5, 5, 96, 46, 42, 21, 5]
abbrev dktL_law_59 : List UInt8 := dkwL_law_59 ++ dktL_law_60
def dkwL_law_58 : List UInt8 := [182, 0, 110, 21, 6, 159, 0, 5, 3, 172, 21, 6, 154, 0, 15, 45, 3, 47, 21, 7, 133, 148]
abbrev dktL_law_58 : List UInt8 := dkwL_law_58 ++ dktL_law_59
def dkwL_law_57 : List UInt8 := [184, 0, 205, 54, 6, 44, 42, 21, 5, 4, 96, 46, 42, 21, 5, 5, 96, 46, 182, 0, 207, 54, 7, 44]
abbrev dktL_law_57 : List UInt8 := dkwL_law_57 ++ dktL_law_58
def dkwL_law_56 : List UInt8 := [153, 0, 5, 3, 172, 167, 2, 156, 43, 42, 21, 5, 4, 96, 46, 42, 21, 5, 5, 96, 46, 45]
abbrev dktL_law_56 : List UInt8 := dkwL_law_56 ++ dktL_law_57
def dkwL_law_55 : List UInt8 := [182, 0, 110, 21, 6, 159, 0, 5, 3, 172, 21, 6, 154, 0, 15, 45, 3, 47, 21, 7, 133, 148]
abbrev dktL_law_55 : List UInt8 := dkwL_law_55 ++ dktL_law_56
def dkwL_law_54 : List UInt8 := [184, 0, 202, 54, 6, 44, 42, 21, 5, 4, 96, 46, 42, 21, 5, 5, 96, 46, 182, 0, 204, 54, 7, 44]
abbrev dktL_law_54 : List UInt8 := dkwL_law_54 ++ dktL_law_55
def dkwL_law_53 : List UInt8 := [153, 0, 5, 3, 172, 167, 2, 224, 43, 42, 21, 5, 4, 96, 46, 42, 21, 5, 5, 96, 46, 45]
abbrev dktL_law_53 : List UInt8 := dkwL_law_53 ++ dktL_law_54
def dkwL_law_52 : List UInt8 := [182, 0, 110, 21, 6, 159, 0, 5, 3, 172, 21, 6, 154, 0, 15, 45, 3, 47, 21, 7, 133, 148]
abbrev dktL_law_52 : List UInt8 := dkwL_law_52 ++ dktL_law_53
def dkwL_law_51 : List UInt8 := [184, 0, 199, 54, 6, 44, 42, 21, 5, 4, 96, 46, 42, 21, 5, 5, 96, 46, 182, 0, 201, 54, 7, 44]
abbrev dktL_law_51 : List UInt8 := dkwL_law_51 ++ dktL_law_52
def dkwL_law_50 : List UInt8 := [153, 0, 5, 3, 172, 167, 3, 36, 43, 42, 21, 5, 4, 96, 46, 42, 21, 5, 5, 96, 46, 45]
abbrev dktL_law_50 : List UInt8 := dkwL_law_50 ++ dktL_law_51
def dkwL_law_49 : List UInt8 := [182, 0, 110, 21, 6, 159, 0, 5, 3, 172, 21, 6, 154, 0, 15, 45, 3, 47, 21, 7, 133, 148]
abbrev dktL_law_49 : List UInt8 := dkwL_law_49 ++ dktL_law_50
def dkwL_law_48 : List UInt8 := [21, 5, 4, 96, 46, 45, 184, 0, 196, 54, 6, 44, 42, 21, 5, 4, 96, 46, 182, 0, 198, 54, 7, 44]
abbrev dktL_law_48 : List UInt8 := dkwL_law_48 ++ dktL_law_49
def dkwL_law_47 : List UInt8 := [172, 21, 6, 154, 0, 15, 45, 3, 47, 21, 7, 133, 148, 153, 0, 5, 3, 172, 167, 3, 92, 43, 42]
abbrev dktL_law_47 : List UInt8 := dkwL_law_47 ++ dktL_law_48
def dkwL_law_46 : List UInt8 := [54, 6, 44, 42, 21, 5, 4, 96, 46, 182, 0, 195, 54, 7, 44, 182, 0, 110, 21, 6, 159, 0, 5, 3]
abbrev dktL_law_46 : List UInt8 := dkwL_law_46 ++ dktL_law_47
def dkwL_law_45 : List UInt8 := [182, 0, 189, 44, 182, 0, 192, 159, 3, 150, 3, 172, 43, 42, 21, 5, 4, 96, 46, 45, 184, 0, 193]
abbrev dktL_law_45 : List UInt8 := dkwL_law_45 ++ dktL_law_46
def dkwL_law_44 : List UInt8 := [172, 21, 6, 154, 0, 15, 45, 3, 47, 21, 7, 133, 148, 153, 0, 5, 3, 172, 167, 3, 161, 43]
abbrev dktL_law_44 : List UInt8 := dkwL_law_44 ++ dktL_law_45
def dkwL_law_43 : List UInt8 := [54, 6, 44, 42, 21, 5, 4, 96, 46, 182, 0, 188, 54, 7, 44, 182, 0, 110, 21, 6, 159, 0, 5, 3]
abbrev dktL_law_43 : List UInt8 := dkwL_law_43 ++ dktL_law_44
def dkwL_law_42 : List UInt8 := [182, 0, 181, 44, 182, 0, 184, 159, 3, 219, 3, 172, 43, 42, 21, 5, 4, 96, 46, 45, 184, 0, 185]
abbrev dktL_law_42 : List UInt8 := dkwL_law_42 ++ dktL_law_43
def dkwL_law_41 : List UInt8 := [182, 0, 176, 159, 3, 245, 3, 172, 43, 182, 0, 177, 44, 182, 0, 180, 159, 3, 232, 3, 172, 43]
abbrev dktL_law_41 : List UInt8 := dkwL_law_41 ++ dktL_law_42
def dkwL_law_40 : List UInt8 := [159, 4, 15, 3, 172, 43, 182, 0, 169, 44, 182, 0, 172, 159, 4, 2, 3, 172, 43, 182, 0, 173, 44]
abbrev dktL_law_40 : List UInt8 := dkwL_law_40 ++ dktL_law_41
def dkwL_law_39 : List UInt8 := [172, 43, 182, 0, 161, 44, 182, 0, 164, 159, 4, 28, 3, 172, 43, 182, 0, 165, 44, 182, 0, 168]
abbrev dktL_law_39 : List UInt8 := dkwL_law_39 ++ dktL_law_40
def dkwL_law_38 : List UInt8 := [182, 0, 153, 44, 182, 0, 156, 159, 4, 54, 3, 172, 43, 182, 0, 157, 44, 182, 0, 160, 159, 4, 41, 3]
abbrev dktL_law_38 : List UInt8 := dkwL_law_38 ++ dktL_law_39
def dkwL_law_37 : List UInt8 := [153, 0, 5, 3, 172, 167, 4, 78, 43, 182, 0, 149, 44, 182, 0, 152, 159, 4, 67, 3, 172, 43]
abbrev dktL_law_37 : List UInt8 := dkwL_law_37 ++ dktL_law_38
def dkwL_law_36 : List UInt8 := [182, 0, 110, 21, 6, 159, 0, 5, 3, 172, 21, 6, 154, 0, 15, 45, 3, 47, 21, 7, 133, 148]
abbrev dktL_law_36 : List UInt8 := dkwL_law_36 ++ dktL_law_37
def dkwL_law_35 : List UInt8 := [153, 0, 5, 3, 172, 167, 4, 122, 43, 45, 184, 0, 145, 54, 6, 44, 182, 0, 148, 54, 7, 44]
abbrev dktL_law_35 : List UInt8 := dkwL_law_35 ++ dktL_law_36
def dkwL_law_34 : List UInt8 := [182, 0, 110, 21, 6, 159, 0, 5, 3, 172, 21, 6, 154, 0, 15, 45, 3, 47, 21, 7, 133, 148]
abbrev dktL_law_34 : List UInt8 := dkwL_law_34 ++ dktL_law_35
def dkwL_law_33 : List UInt8 := [184, 0, 142, 54, 6, 44, 42, 21, 5, 4, 96, 46, 42, 21, 5, 5, 96, 46, 182, 0, 144, 54, 7, 44]
abbrev dktL_law_33 : List UInt8 := dkwL_law_33 ++ dktL_law_34
def dkwL_law_32 : List UInt8 := [153, 0, 5, 3, 172, 167, 4, 190, 43, 42, 21, 5, 4, 96, 46, 42, 21, 5, 5, 96, 46, 45]
abbrev dktL_law_32 : List UInt8 := dkwL_law_32 ++ dktL_law_33
def dkwL_law_31 : List UInt8 := [182, 0, 110, 21, 6, 159, 0, 5, 3, 172, 21, 6, 154, 0, 15, 45, 3, 47, 21, 7, 133, 148]
abbrev dktL_law_31 : List UInt8 := dkwL_law_31 ++ dktL_law_32
def dkwL_law_30 : List UInt8 := [184, 0, 139, 54, 6, 44, 42, 21, 5, 4, 96, 46, 42, 21, 5, 5, 96, 46, 182, 0, 141, 54, 7, 44]
abbrev dktL_law_30 : List UInt8 := dkwL_law_30 ++ dktL_law_31
def dkwL_law_29 : List UInt8 := [153, 0, 5, 3, 172, 167, 5, 2, 43, 42, 21, 5, 4, 96, 46, 42, 21, 5, 5, 96, 46, 45]
abbrev dktL_law_29 : List UInt8 := dkwL_law_29 ++ dktL_law_30
def dkwL_law_28 : List UInt8 := [182, 0, 110, 21, 6, 159, 0, 5, 3, 172, 21, 6, 154, 0, 15, 45, 3, 47, 21, 7, 133, 148]
abbrev dktL_law_28 : List UInt8 := dkwL_law_28 ++ dktL_law_29
def dkwL_law_27 : List UInt8 := [184, 0, 136, 54, 6, 44, 42, 21, 5, 4, 96, 46, 42, 21, 5, 5, 96, 46, 182, 0, 138, 54, 7, 44]
abbrev dktL_law_27 : List UInt8 := dkwL_law_27 ++ dktL_law_28
def dkwL_law_26 : List UInt8 := [153, 0, 5, 3, 172, 167, 5, 70, 43, 42, 21, 5, 4, 96, 46, 42, 21, 5, 5, 96, 46, 45]
abbrev dktL_law_26 : List UInt8 := dkwL_law_26 ++ dktL_law_27
def dkwL_law_25 : List UInt8 := [182, 0, 110, 21, 6, 159, 0, 5, 3, 172, 21, 6, 154, 0, 15, 45, 3, 47, 21, 7, 133, 148]
abbrev dktL_law_25 : List UInt8 := dkwL_law_25 ++ dktL_law_26
def dkwL_law_24 : List UInt8 := [184, 0, 133, 54, 6, 44, 42, 21, 5, 4, 96, 46, 42, 21, 5, 5, 96, 46, 182, 0, 135, 54, 7, 44]
abbrev dktL_law_24 : List UInt8 := dkwL_law_24 ++ dktL_law_25
def dkwL_law_23 : List UInt8 := [148, 153, 0, 5, 3, 172, 167, 5, 138, 43, 42, 21, 5, 4, 96, 46, 42, 21, 5, 5, 96, 46, 45]
abbrev dktL_law_23 : List UInt8 := dkwL_law_23 ++ dktL_law_24
def dkwL_law_22 : List UInt8 := [54, 7, 44, 182, 0, 110, 21, 6, 159, 0, 5, 3, 172, 21, 6, 154, 0, 15, 45, 3, 47, 21, 7, 133]
abbrev dktL_law_22 : List UInt8 := dkwL_law_22 ++ dktL_law_23
def dkwL_law_21 : List UInt8 := [46, 45, 184, 0, 130, 54, 6, 44, 42, 21, 5, 4, 96, 46, 42, 21, 5, 5, 96, 46, 182, 0, 132]
abbrev dktL_law_21 : List UInt8 := dkwL_law_21 ++ dktL_law_22
def dkwL_law_20 : List UInt8 := [21, 7, 133, 148, 153, 0, 5, 3, 172, 167, 5, 206, 43, 42, 21, 5, 4, 96, 46, 42, 21, 5, 5, 96]
abbrev dktL_law_20 : List UInt8 := dkwL_law_20 ++ dktL_law_21
def dkwL_law_19 : List UInt8 := [182, 0, 129, 54, 7, 44, 182, 0, 110, 21, 6, 159, 0, 5, 3, 172, 21, 6, 154, 0, 15, 45, 3, 47]
abbrev dktL_law_19 : List UInt8 := dkwL_law_19 ++ dktL_law_20
def dkwL_law_18 : List UInt8 := [96, 46, 42, 21, 5, 5, 96, 46, 42, 21, 5, 6, 96, 46, 153, 0, 7, 4, 167, 0, 4, 3]
abbrev dktL_law_18 : List UInt8 := dkwL_law_18 ++ dktL_law_19
def dkwL_law_17 : List UInt8 := [21, 5, 6, 96, 46, 153, 0, 7, 4, 167, 0, 4, 3, 45, 184, 0, 126, 54, 6, 44, 42, 21, 5, 4]
abbrev dktL_law_17 : List UInt8 := dkwL_law_17 ++ dktL_law_18
def dkwL_law_16 : List UInt8 := [148, 153, 0, 5, 3, 172, 167, 6, 46, 43, 42, 21, 5, 4, 96, 46, 42, 21, 5, 5, 96, 46, 42]
abbrev dktL_law_16 : List UInt8 := dkwL_law_16 ++ dktL_law_17
def dkwL_law_15 : List UInt8 := [54, 7, 44, 182, 0, 110, 21, 6, 159, 0, 5, 3, 172, 21, 6, 154, 0, 15, 45, 3, 47, 21, 7, 133]
abbrev dktL_law_15 : List UInt8 := dkwL_law_15 ++ dktL_law_16
def dkwL_law_14 : List UInt8 := [46, 45, 184, 0, 123, 54, 6, 44, 42, 21, 5, 4, 96, 46, 42, 21, 5, 5, 96, 46, 182, 0, 125]
abbrev dktL_law_14 : List UInt8 := dkwL_law_14 ++ dktL_law_15
def dkwL_law_13 : List UInt8 := [21, 7, 133, 148, 153, 0, 5, 3, 172, 167, 6, 114, 43, 42, 21, 5, 4, 96, 46, 42, 21, 5, 5, 96]
abbrev dktL_law_13 : List UInt8 := dkwL_law_13 ++ dktL_law_14
def dkwL_law_12 : List UInt8 := [182, 0, 122, 54, 7, 44, 182, 0, 110, 21, 6, 159, 0, 5, 3, 172, 21, 6, 154, 0, 15, 45, 3, 47]
abbrev dktL_law_12 : List UInt8 := dkwL_law_12 ++ dktL_law_13
def dkwL_law_11 : List UInt8 := [96, 46, 42, 21, 5, 5, 96, 46, 133, 16, 32, 121, 42, 21, 5, 6, 96, 46, 133, 20, 0, 117, 127, 129]
abbrev dktL_law_11 : List UInt8 := dkwL_law_11 ++ dktL_law_12
def dkwL_law_10 : List UInt8 := [121, 42, 21, 5, 6, 96, 46, 133, 20, 0, 117, 127, 129, 45, 184, 0, 119, 54, 6, 44, 42, 21, 5, 4]
abbrev dktL_law_10 : List UInt8 := dkwL_law_10 ++ dktL_law_11
def dkwL_law_9 : List UInt8 := [153, 0, 5, 3, 172, 167, 6, 214, 43, 42, 21, 5, 4, 96, 46, 42, 21, 5, 5, 96, 46, 133, 16, 32]
abbrev dktL_law_9 : List UInt8 := dkwL_law_9 ++ dktL_law_10
def dkwL_law_8 : List UInt8 := [182, 0, 110, 21, 6, 159, 0, 5, 3, 172, 21, 6, 154, 0, 15, 45, 3, 47, 21, 7, 133, 148]
abbrev dktL_law_8 : List UInt8 := dkwL_law_8 ++ dktL_law_9
def dkwL_law_7 : List UInt8 := [21, 5, 4, 96, 46, 42, 21, 5, 5, 96, 46, 42, 21, 5, 6, 96, 46, 182, 0, 116, 54, 7, 44]
abbrev dktL_law_7 : List UInt8 := dkwL_law_7 ++ dktL_law_8
def dkwL_law_6 : List UInt8 := [4, 96, 46, 42, 21, 5, 5, 96, 46, 42, 21, 5, 6, 96, 46, 45, 184, 0, 113, 54, 6, 44, 42]
abbrev dktL_law_6 : List UInt8 := dkwL_law_6 ++ dktL_law_7
def dkwL_law_5 : List UInt8 := [21, 6, 154, 0, 15, 45, 3, 47, 21, 7, 133, 148, 153, 0, 5, 3, 172, 167, 7, 38, 43, 42, 21, 5]
abbrev dktL_law_5 : List UInt8 := dkwL_law_5 ++ dktL_law_6
def dkwL_law_4 : List UInt8 := [96, 46, 42, 21, 5, 5, 96, 46, 182, 0, 109, 54, 7, 44, 182, 0, 110, 21, 6, 159, 0, 5, 3, 172]
abbrev dktL_law_4 : List UInt8 := dkwL_law_4 ++ dktL_law_5
def dkwL_law_3 : List UInt8 := [43, 42, 21, 5, 4, 96, 46, 42, 21, 5, 5, 96, 46, 45, 184, 0, 104, 54, 6, 44, 42, 21, 5, 4]
abbrev dktL_law_3 : List UInt8 := dkwL_law_3 ++ dktL_law_4
def dkwL_law_2 : List UInt8 := [170, 0, 0, 0, 0, 0, 8, 31, 0, 0, 0, 0, 0, 0, 0, 41, 0, 0, 0, 184, 0, 0, 0, 252, 0, 0, 1, 76, 0, 0, 1, 176, 0, 0, 1, 244, 0, 0, 2, 84, 0, 0, 2, 152, 0, 0, 2, 220, 0, 0, 3, 32, 0, 0, 3, 100, 0, 0, 3, 168, 0, 0, 3, 212, 0, 0, 3, 225, 0, 0, 3, 238, 0, 0, 3, 251, 0, 0, 4, 8, 0, 0, 4, 21, 0, 0, 4, 34, 0, 0, 4, 47, 0, 0, 4, 60, 0, 0, 4, 73, 0, 0, 4, 129, 0, 0, 4, 142, 0, 0, 4, 198, 0, 0, 4, 254, 0, 0, 5, 66, 0, 0, 5, 134, 0, 0, 5, 202, 0, 0, 6, 26, 0, 0, 6, 39, 0, 0, 6, 52, 0, 0, 6, 65, 0, 0, 6, 128, 0, 0, 6, 184, 0, 0, 6, 240, 0, 0, 7, 28, 0, 0, 7, 72, 0, 0, 7, 128, 0, 0, 7, 141, 0, 0, 7, 182, 0, 0, 8, 4, 0, 0, 8, 18]
abbrev dktL_law_2 : List UInt8 := dkwL_law_2 ++ dktL_law_3
def dkwL_law_1 : List UInt8 := [58, 4, 3, 54, 5, 21, 5, 42, 190, 7, 100, 163, 8, 47, 42, 21, 5, 46, 16, 63, 126]
abbrev dktL_law_1 : List UInt8 := dkwL_law_1 ++ dktL_law_2
def dkwL_law_0 : List UInt8 := [187, 0, 8, 89, 183, 0, 100, 76, 187, 0, 101, 89, 183, 0, 103, 77, 4, 188, 11, 78, 4, 188, 7]
abbrev dktL_law_0 : List UInt8 := dkwL_law_0 ++ dktL_law_1
theorem dksL_law_0 : cL_law.data.toList.drop 0 = dktL_law_0 := by decide +kernel
theorem dksL_law_1 : cL_law.data.toList.drop 23 = dktL_law_1 := dk_seg dksL_law_0 23 rfl rfl
theorem dksL_law_2 : cL_law.data.toList.drop 44 = dktL_law_2 := dk_seg dksL_law_1 21 rfl rfl
theorem dksL_law_3 : cL_law.data.toList.drop 228 = dktL_law_3 := dk_seg dksL_law_2 184 rfl rfl
theorem dksL_law_4 : cL_law.data.toList.drop 252 = dktL_law_4 := dk_seg dksL_law_3 24 rfl rfl
theorem dksL_law_5 : cL_law.data.toList.drop 276 = dktL_law_5 := dk_seg dksL_law_4 24 rfl rfl
theorem dksL_law_6 : cL_law.data.toList.drop 300 = dktL_law_6 := dk_seg dksL_law_5 24 rfl rfl
theorem dksL_law_7 : cL_law.data.toList.drop 323 = dktL_law_7 := dk_seg dksL_law_6 23 rfl rfl
theorem dksL_law_8 : cL_law.data.toList.drop 346 = dktL_law_8 := dk_seg dksL_law_7 23 rfl rfl
theorem dksL_law_9 : cL_law.data.toList.drop 368 = dktL_law_9 := dk_seg dksL_law_8 22 rfl rfl
theorem dksL_law_10 : cL_law.data.toList.drop 392 = dktL_law_10 := dk_seg dksL_law_9 24 rfl rfl
theorem dksL_law_11 : cL_law.data.toList.drop 416 = dktL_law_11 := dk_seg dksL_law_10 24 rfl rfl
theorem dksL_law_12 : cL_law.data.toList.drop 440 = dktL_law_12 := dk_seg dksL_law_11 24 rfl rfl
theorem dksL_law_13 : cL_law.data.toList.drop 464 = dktL_law_13 := dk_seg dksL_law_12 24 rfl rfl
theorem dksL_law_14 : cL_law.data.toList.drop 488 = dktL_law_14 := dk_seg dksL_law_13 24 rfl rfl
theorem dksL_law_15 : cL_law.data.toList.drop 511 = dktL_law_15 := dk_seg dksL_law_14 23 rfl rfl
theorem dksL_law_16 : cL_law.data.toList.drop 535 = dktL_law_16 := dk_seg dksL_law_15 24 rfl rfl
theorem dksL_law_17 : cL_law.data.toList.drop 558 = dktL_law_17 := dk_seg dksL_law_16 23 rfl rfl
theorem dksL_law_18 : cL_law.data.toList.drop 582 = dktL_law_18 := dk_seg dksL_law_17 24 rfl rfl
theorem dksL_law_19 : cL_law.data.toList.drop 604 = dktL_law_19 := dk_seg dksL_law_18 22 rfl rfl
theorem dksL_law_20 : cL_law.data.toList.drop 628 = dktL_law_20 := dk_seg dksL_law_19 24 rfl rfl
theorem dksL_law_21 : cL_law.data.toList.drop 652 = dktL_law_21 := dk_seg dksL_law_20 24 rfl rfl
theorem dksL_law_22 : cL_law.data.toList.drop 675 = dktL_law_22 := dk_seg dksL_law_21 23 rfl rfl
theorem dksL_law_23 : cL_law.data.toList.drop 699 = dktL_law_23 := dk_seg dksL_law_22 24 rfl rfl
theorem dksL_law_24 : cL_law.data.toList.drop 722 = dktL_law_24 := dk_seg dksL_law_23 23 rfl rfl
theorem dksL_law_25 : cL_law.data.toList.drop 746 = dktL_law_25 := dk_seg dksL_law_24 24 rfl rfl
theorem dksL_law_26 : cL_law.data.toList.drop 768 = dktL_law_26 := dk_seg dksL_law_25 22 rfl rfl
theorem dksL_law_27 : cL_law.data.toList.drop 790 = dktL_law_27 := dk_seg dksL_law_26 22 rfl rfl
theorem dksL_law_28 : cL_law.data.toList.drop 814 = dktL_law_28 := dk_seg dksL_law_27 24 rfl rfl
theorem dksL_law_29 : cL_law.data.toList.drop 836 = dktL_law_29 := dk_seg dksL_law_28 22 rfl rfl
theorem dksL_law_30 : cL_law.data.toList.drop 858 = dktL_law_30 := dk_seg dksL_law_29 22 rfl rfl
theorem dksL_law_31 : cL_law.data.toList.drop 882 = dktL_law_31 := dk_seg dksL_law_30 24 rfl rfl
theorem dksL_law_32 : cL_law.data.toList.drop 904 = dktL_law_32 := dk_seg dksL_law_31 22 rfl rfl
theorem dksL_law_33 : cL_law.data.toList.drop 926 = dktL_law_33 := dk_seg dksL_law_32 22 rfl rfl
theorem dksL_law_34 : cL_law.data.toList.drop 950 = dktL_law_34 := dk_seg dksL_law_33 24 rfl rfl
theorem dksL_law_35 : cL_law.data.toList.drop 972 = dktL_law_35 := dk_seg dksL_law_34 22 rfl rfl
theorem dksL_law_36 : cL_law.data.toList.drop 994 = dktL_law_36 := dk_seg dksL_law_35 22 rfl rfl
theorem dksL_law_37 : cL_law.data.toList.drop 1016 = dktL_law_37 := dk_seg dksL_law_36 22 rfl rfl
theorem dksL_law_38 : cL_law.data.toList.drop 1038 = dktL_law_38 := dk_seg dksL_law_37 22 rfl rfl
theorem dksL_law_39 : cL_law.data.toList.drop 1062 = dktL_law_39 := dk_seg dksL_law_38 24 rfl rfl
theorem dksL_law_40 : cL_law.data.toList.drop 1084 = dktL_law_40 := dk_seg dksL_law_39 22 rfl rfl
theorem dksL_law_41 : cL_law.data.toList.drop 1107 = dktL_law_41 := dk_seg dksL_law_40 23 rfl rfl
theorem dksL_law_42 : cL_law.data.toList.drop 1129 = dktL_law_42 := dk_seg dksL_law_41 22 rfl rfl
theorem dksL_law_43 : cL_law.data.toList.drop 1152 = dktL_law_43 := dk_seg dksL_law_42 23 rfl rfl
theorem dksL_law_44 : cL_law.data.toList.drop 1176 = dktL_law_44 := dk_seg dksL_law_43 24 rfl rfl
theorem dksL_law_45 : cL_law.data.toList.drop 1198 = dktL_law_45 := dk_seg dksL_law_44 22 rfl rfl
theorem dksL_law_46 : cL_law.data.toList.drop 1221 = dktL_law_46 := dk_seg dksL_law_45 23 rfl rfl
theorem dksL_law_47 : cL_law.data.toList.drop 1245 = dktL_law_47 := dk_seg dksL_law_46 24 rfl rfl
theorem dksL_law_48 : cL_law.data.toList.drop 1268 = dktL_law_48 := dk_seg dksL_law_47 23 rfl rfl
theorem dksL_law_49 : cL_law.data.toList.drop 1292 = dktL_law_49 := dk_seg dksL_law_48 24 rfl rfl
theorem dksL_law_50 : cL_law.data.toList.drop 1314 = dktL_law_50 := dk_seg dksL_law_49 22 rfl rfl
theorem dksL_law_51 : cL_law.data.toList.drop 1336 = dktL_law_51 := dk_seg dksL_law_50 22 rfl rfl
theorem dksL_law_52 : cL_law.data.toList.drop 1360 = dktL_law_52 := dk_seg dksL_law_51 24 rfl rfl
theorem dksL_law_53 : cL_law.data.toList.drop 1382 = dktL_law_53 := dk_seg dksL_law_52 22 rfl rfl
theorem dksL_law_54 : cL_law.data.toList.drop 1404 = dktL_law_54 := dk_seg dksL_law_53 22 rfl rfl
theorem dksL_law_55 : cL_law.data.toList.drop 1428 = dktL_law_55 := dk_seg dksL_law_54 24 rfl rfl
theorem dksL_law_56 : cL_law.data.toList.drop 1450 = dktL_law_56 := dk_seg dksL_law_55 22 rfl rfl
theorem dksL_law_57 : cL_law.data.toList.drop 1472 = dktL_law_57 := dk_seg dksL_law_56 22 rfl rfl
theorem dksL_law_58 : cL_law.data.toList.drop 1496 = dktL_law_58 := dk_seg dksL_law_57 24 rfl rfl
theorem dksL_law_59 : cL_law.data.toList.drop 1518 = dktL_law_59 := dk_seg dksL_law_58 22 rfl rfl
theorem dksL_law_60 : cL_law.data.toList.drop 1542 = dktL_law_60 := dk_seg dksL_law_59 24 rfl rfl
theorem dksL_law_61 : cL_law.data.toList.drop 1565 = dktL_law_61 := dk_seg dksL_law_60 23 rfl rfl
theorem dksL_law_62 : cL_law.data.toList.drop 1588 = dktL_law_62 := dk_seg dksL_law_61 23 rfl rfl
theorem dksL_law_63 : cL_law.data.toList.drop 1611 = dktL_law_63 := dk_seg dksL_law_62 23 rfl rfl
theorem dksL_law_64 : cL_law.data.toList.drop 1633 = dktL_law_64 := dk_seg dksL_law_63 22 rfl rfl
theorem dksL_law_65 : cL_law.data.toList.drop 1656 = dktL_law_65 := dk_seg dksL_law_64 23 rfl rfl
theorem dksL_law_66 : cL_law.data.toList.drop 1680 = dktL_law_66 := dk_seg dksL_law_65 24 rfl rfl
theorem dksL_law_67 : cL_law.data.toList.drop 1704 = dktL_law_67 := dk_seg dksL_law_66 24 rfl rfl
theorem dksL_law_68 : cL_law.data.toList.drop 1728 = dktL_law_68 := dk_seg dksL_law_67 24 rfl rfl
theorem dksL_law_69 : cL_law.data.toList.drop 1752 = dktL_law_69 := dk_seg dksL_law_68 24 rfl rfl
theorem dksL_law_70 : cL_law.data.toList.drop 1775 = dktL_law_70 := dk_seg dksL_law_69 23 rfl rfl
theorem dksL_law_71 : cL_law.data.toList.drop 1799 = dktL_law_71 := dk_seg dksL_law_70 24 rfl rfl
theorem dksL_law_72 : cL_law.data.toList.drop 1822 = dktL_law_72 := dk_seg dksL_law_71 23 rfl rfl
theorem dksL_law_73 : cL_law.data.toList.drop 1846 = dktL_law_73 := dk_seg dksL_law_72 24 rfl rfl
theorem dksL_law_74 : cL_law.data.toList.drop 1869 = dktL_law_74 := dk_seg dksL_law_73 23 rfl rfl
theorem dksL_law_75 : cL_law.data.toList.drop 1893 = dktL_law_75 := dk_seg dksL_law_74 24 rfl rfl
theorem dksL_law_76 : cL_law.data.toList.drop 1916 = dktL_law_76 := dk_seg dksL_law_75 23 rfl rfl
theorem dksL_law_77 : cL_law.data.toList.drop 1939 = dktL_law_77 := dk_seg dksL_law_76 23 rfl rfl
theorem dksL_law_78 : cL_law.data.toList.drop 1961 = dktL_law_78 := dk_seg dksL_law_77 22 rfl rfl
theorem dksL_law_79 : cL_law.data.toList.drop 1984 = dktL_law_79 := dk_seg dksL_law_78 23 rfl rfl
theorem dksL_law_80 : cL_law.data.toList.drop 2007 = dktL_law_80 := dk_seg dksL_law_79 23 rfl rfl
theorem dksL_law_81 : cL_law.data.toList.drop 2030 = dktL_law_81 := dk_seg dksL_law_80 23 rfl rfl
theorem dksL_law_82 : cL_law.data.toList.drop 2054 = dktL_law_82 := dk_seg dksL_law_81 24 rfl rfl
theorem dksL_law_83 : cL_law.data.toList.drop 2078 = dktL_law_83 := dk_seg dksL_law_82 24 rfl rfl
theorem dksL_law_84 : cL_law.data.toList.drop 2101 = dktL_law_84 := dk_seg dksL_law_83 23 rfl rfl
theorem dksL_law_85 : cL_law.data.toList.drop 2123 = dktL_law_85 := dk_seg dksL_law_84 22 rfl rfl
theorem dL_law_0 : decode cL_law 0 = .ok (.new 8, 3) := dk_187 0 8 (dk_at dksL_law_0 0 rfl rfl)
theorem dL_law_3 : decode cL_law 3 = .ok (.dup, 1) := dk_89 (dk_at dksL_law_0 3 rfl rfl)
theorem dL_law_4 : decode cL_law 4 = .ok (.invokespecial 100, 3) := dk_183 0 100 (dk_at dksL_law_0 4 rfl rfl)
theorem dL_law_7 : decode cL_law 7 = .ok (.astore_n 1, 1) := dk_76 (dk_at dksL_law_0 7 rfl rfl)
theorem dL_law_8 : decode cL_law 8 = .ok (.new 101, 3) := dk_187 0 101 (dk_at dksL_law_0 8 rfl rfl)
theorem dL_law_11 : decode cL_law 11 = .ok (.dup, 1) := dk_89 (dk_at dksL_law_0 11 rfl rfl)
theorem dL_law_12 : decode cL_law 12 = .ok (.invokespecial 103, 3) := dk_183 0 103 (dk_at dksL_law_0 12 rfl rfl)
theorem dL_law_15 : decode cL_law 15 = .ok (.astore_n 2, 1) := dk_77 (dk_at dksL_law_0 15 rfl rfl)
theorem dL_law_16 : decode cL_law 16 = .ok (.iconst 1, 1) := dk_4 (dk_at dksL_law_0 16 rfl rfl)
theorem dL_law_17 : decode cL_law 17 = .ok (.newarray .long, 2) := dk_188_11 (dk_at dksL_law_0 17 rfl rfl)
theorem dL_law_19 : decode cL_law 19 = .ok (.astore_n 3, 1) := dk_78 (dk_at dksL_law_0 19 rfl rfl)
theorem dL_law_20 : decode cL_law 20 = .ok (.iconst 1, 1) := dk_4 (dk_at dksL_law_0 20 rfl rfl)
theorem dL_law_21 : decode cL_law 21 = .ok (.newarray .double, 2) := dk_188_7 (dk_at dksL_law_0 21 rfl rfl)
theorem dL_law_23 : decode cL_law 23 = .ok (.astore 4, 2) := dk_58 4 (dk_at dksL_law_1 0 rfl rfl)
theorem dL_law_25 : decode cL_law 25 = .ok (.iconst 0, 1) := dk_3 (dk_at dksL_law_1 2 rfl rfl)
theorem dL_law_26 : decode cL_law 26 = .ok (.istore 5, 2) := dk_54 5 (dk_at dksL_law_1 3 rfl rfl)
theorem dL_law_28 : decode cL_law 28 = .ok (.iload 5, 2) := dk_21 5 (dk_at dksL_law_1 5 rfl rfl)
theorem dL_law_30 : decode cL_law 30 = .ok (.aload_n 0, 1) := dk_42 (dk_at dksL_law_1 7 rfl rfl)
theorem dL_law_31 : decode cL_law 31 = .ok (.arraylength, 1) := dk_190 (dk_at dksL_law_1 8 rfl rfl)
theorem dL_law_32 : decode cL_law 32 = .ok (.iconst 4, 1) := dk_7 (dk_at dksL_law_1 9 rfl rfl)
theorem dL_law_33 : decode cL_law 33 = .ok (.isub, 1) := dk_100 (dk_at dksL_law_1 10 rfl rfl)
theorem dL_law_34 : decode cL_law 34 = .ok (.if_icmp .gt 2095, 3) := dk_163 8 47 (dk_at dksL_law_1 11 rfl rfl)
theorem dL_law_37 : decode cL_law 37 = .ok (.aload_n 0, 1) := dk_42 (dk_at dksL_law_1 14 rfl rfl)
theorem dL_law_38 : decode cL_law 38 = .ok (.iload 5, 2) := dk_21 5 (dk_at dksL_law_1 15 rfl rfl)
theorem dL_law_40 : decode cL_law 40 = .ok (.iaload, 1) := dk_46 (dk_at dksL_law_1 17 rfl rfl)
theorem dL_law_41 : decode cL_law 41 = .ok (.bipush 63, 2) := dk_16 63 (dk_at dksL_law_1 18 rfl rfl)
theorem dL_law_43 : decode cL_law 43 = .ok (.iand, 1) := dk_126 (dk_at dksL_law_1 20 rfl rfl)
theorem dL_law_44 : decode cL_law 44 = .ok (.tableswitch 2079 0 41 #[184, 252, 332, 432, 500, 596, 664, 732, 800, 868, 936, 980, 993, 1006, 1019, 1032, 1045, 1058, 1071, 1084, 1097, 1153, 1166, 1222, 1278, 1346, 1414, 1482, 1562, 1575, 1588, 1601, 1664, 1720, 1776, 1820, 1864, 1920, 1933, 1974, 2052, 2066], 184) := by decide +kernel
theorem dL_law_228 : decode cL_law 228 = .ok (.aload_n 1, 1) := dk_43 (dk_at dksL_law_3 0 rfl rfl)
theorem dL_law_229 : decode cL_law 229 = .ok (.aload_n 0, 1) := dk_42 (dk_at dksL_law_3 1 rfl rfl)
theorem dL_law_230 : decode cL_law 230 = .ok (.iload 5, 2) := dk_21 5 (dk_at dksL_law_3 2 rfl rfl)
theorem dL_law_232 : decode cL_law 232 = .ok (.iconst 1, 1) := dk_4 (dk_at dksL_law_3 4 rfl rfl)
theorem dL_law_233 : decode cL_law 233 = .ok (.iadd, 1) := dk_96 (dk_at dksL_law_3 5 rfl rfl)
theorem dL_law_234 : decode cL_law 234 = .ok (.iaload, 1) := dk_46 (dk_at dksL_law_3 6 rfl rfl)
theorem dL_law_235 : decode cL_law 235 = .ok (.aload_n 0, 1) := dk_42 (dk_at dksL_law_3 7 rfl rfl)
theorem dL_law_236 : decode cL_law 236 = .ok (.iload 5, 2) := dk_21 5 (dk_at dksL_law_3 8 rfl rfl)
theorem dL_law_238 : decode cL_law 238 = .ok (.iconst 2, 1) := dk_5 (dk_at dksL_law_3 10 rfl rfl)
theorem dL_law_239 : decode cL_law 239 = .ok (.iadd, 1) := dk_96 (dk_at dksL_law_3 11 rfl rfl)
theorem dL_law_240 : decode cL_law 240 = .ok (.iaload, 1) := dk_46 (dk_at dksL_law_3 12 rfl rfl)
theorem dL_law_241 : decode cL_law 241 = .ok (.aload_n 3, 1) := dk_45 (dk_at dksL_law_3 13 rfl rfl)
theorem dL_law_242 : decode cL_law 242 = .ok (.invokestatic 104, 3) := dk_184 0 104 (dk_at dksL_law_3 14 rfl rfl)
theorem dL_law_245 : decode cL_law 245 = .ok (.istore 6, 2) := dk_54 6 (dk_at dksL_law_3 17 rfl rfl)
theorem dL_law_247 : decode cL_law 247 = .ok (.aload_n 2, 1) := dk_44 (dk_at dksL_law_3 19 rfl rfl)
theorem dL_law_248 : decode cL_law 248 = .ok (.aload_n 0, 1) := dk_42 (dk_at dksL_law_3 20 rfl rfl)
theorem dL_law_249 : decode cL_law 249 = .ok (.iload 5, 2) := dk_21 5 (dk_at dksL_law_3 21 rfl rfl)
theorem dL_law_251 : decode cL_law 251 = .ok (.iconst 1, 1) := dk_4 (dk_at dksL_law_3 23 rfl rfl)
theorem dL_law_252 : decode cL_law 252 = .ok (.iadd, 1) := dk_96 (dk_at dksL_law_4 0 rfl rfl)
theorem dL_law_253 : decode cL_law 253 = .ok (.iaload, 1) := dk_46 (dk_at dksL_law_4 1 rfl rfl)
theorem dL_law_254 : decode cL_law 254 = .ok (.aload_n 0, 1) := dk_42 (dk_at dksL_law_4 2 rfl rfl)
theorem dL_law_255 : decode cL_law 255 = .ok (.iload 5, 2) := dk_21 5 (dk_at dksL_law_4 3 rfl rfl)
theorem dL_law_257 : decode cL_law 257 = .ok (.iconst 2, 1) := dk_5 (dk_at dksL_law_4 5 rfl rfl)
theorem dL_law_258 : decode cL_law 258 = .ok (.iadd, 1) := dk_96 (dk_at dksL_law_4 6 rfl rfl)
theorem dL_law_259 : decode cL_law 259 = .ok (.iaload, 1) := dk_46 (dk_at dksL_law_4 7 rfl rfl)
theorem dL_law_260 : decode cL_law 260 = .ok (.invokevirtual 109, 3) := dk_182 0 109 (dk_at dksL_law_4 8 rfl rfl)
theorem dL_law_263 : decode cL_law 263 = .ok (.istore 7, 2) := dk_54 7 (dk_at dksL_law_4 11 rfl rfl)
theorem dL_law_265 : decode cL_law 265 = .ok (.aload_n 2, 1) := dk_44 (dk_at dksL_law_4 13 rfl rfl)
theorem dL_law_266 : decode cL_law 266 = .ok (.invokevirtual 110, 3) := dk_182 0 110 (dk_at dksL_law_4 14 rfl rfl)
theorem dL_law_269 : decode cL_law 269 = .ok (.iload 6, 2) := dk_21 6 (dk_at dksL_law_4 17 rfl rfl)
theorem dL_law_271 : decode cL_law 271 = .ok (.if_icmp .eq 5, 3) := dk_159 0 5 (dk_at dksL_law_4 19 rfl rfl)
theorem dL_law_274 : decode cL_law 274 = .ok (.iconst 0, 1) := dk_3 (dk_at dksL_law_4 22 rfl rfl)
theorem dL_law_275 : decode cL_law 275 = .ok (.ireturn, 1) := dk_172 (dk_at dksL_law_4 23 rfl rfl)
theorem dL_law_276 : decode cL_law 276 = .ok (.iload 6, 2) := dk_21 6 (dk_at dksL_law_5 0 rfl rfl)
theorem dL_law_278 : decode cL_law 278 = .ok (.ifCond .ne 15, 3) := dk_154 0 15 (dk_at dksL_law_5 2 rfl rfl)
theorem dL_law_281 : decode cL_law 281 = .ok (.aload_n 3, 1) := dk_45 (dk_at dksL_law_5 5 rfl rfl)
theorem dL_law_282 : decode cL_law 282 = .ok (.iconst 0, 1) := dk_3 (dk_at dksL_law_5 6 rfl rfl)
theorem dL_law_283 : decode cL_law 283 = .ok (.laload, 1) := dk_47 (dk_at dksL_law_5 7 rfl rfl)
theorem dL_law_284 : decode cL_law 284 = .ok (.iload 7, 2) := dk_21 7 (dk_at dksL_law_5 8 rfl rfl)
theorem dL_law_286 : decode cL_law 286 = .ok (.i2l, 1) := dk_133 (dk_at dksL_law_5 10 rfl rfl)
theorem dL_law_287 : decode cL_law 287 = .ok (.lcmp, 1) := dk_148 (dk_at dksL_law_5 11 rfl rfl)
theorem dL_law_288 : decode cL_law 288 = .ok (.ifCond .eq 5, 3) := dk_153 0 5 (dk_at dksL_law_5 12 rfl rfl)
theorem dL_law_291 : decode cL_law 291 = .ok (.iconst 0, 1) := dk_3 (dk_at dksL_law_5 15 rfl rfl)
theorem dL_law_292 : decode cL_law 292 = .ok (.ireturn, 1) := dk_172 (dk_at dksL_law_5 16 rfl rfl)
theorem dL_law_293 : decode cL_law 293 = .ok (.goto 1830, 3) := dk_167 7 38 (dk_at dksL_law_5 17 rfl rfl)
theorem dL_law_296 : decode cL_law 296 = .ok (.aload_n 1, 1) := dk_43 (dk_at dksL_law_5 20 rfl rfl)
theorem dL_law_297 : decode cL_law 297 = .ok (.aload_n 0, 1) := dk_42 (dk_at dksL_law_5 21 rfl rfl)
theorem dL_law_298 : decode cL_law 298 = .ok (.iload 5, 2) := dk_21 5 (dk_at dksL_law_5 22 rfl rfl)
theorem dL_law_300 : decode cL_law 300 = .ok (.iconst 1, 1) := dk_4 (dk_at dksL_law_6 0 rfl rfl)
theorem dL_law_301 : decode cL_law 301 = .ok (.iadd, 1) := dk_96 (dk_at dksL_law_6 1 rfl rfl)
theorem dL_law_302 : decode cL_law 302 = .ok (.iaload, 1) := dk_46 (dk_at dksL_law_6 2 rfl rfl)
theorem dL_law_303 : decode cL_law 303 = .ok (.aload_n 0, 1) := dk_42 (dk_at dksL_law_6 3 rfl rfl)
theorem dL_law_304 : decode cL_law 304 = .ok (.iload 5, 2) := dk_21 5 (dk_at dksL_law_6 4 rfl rfl)
theorem dL_law_306 : decode cL_law 306 = .ok (.iconst 2, 1) := dk_5 (dk_at dksL_law_6 6 rfl rfl)
theorem dL_law_307 : decode cL_law 307 = .ok (.iadd, 1) := dk_96 (dk_at dksL_law_6 7 rfl rfl)
theorem dL_law_308 : decode cL_law 308 = .ok (.iaload, 1) := dk_46 (dk_at dksL_law_6 8 rfl rfl)
theorem dL_law_309 : decode cL_law 309 = .ok (.aload_n 0, 1) := dk_42 (dk_at dksL_law_6 9 rfl rfl)
theorem dL_law_310 : decode cL_law 310 = .ok (.iload 5, 2) := dk_21 5 (dk_at dksL_law_6 10 rfl rfl)
theorem dL_law_312 : decode cL_law 312 = .ok (.iconst 3, 1) := dk_6 (dk_at dksL_law_6 12 rfl rfl)
theorem dL_law_313 : decode cL_law 313 = .ok (.iadd, 1) := dk_96 (dk_at dksL_law_6 13 rfl rfl)
theorem dL_law_314 : decode cL_law 314 = .ok (.iaload, 1) := dk_46 (dk_at dksL_law_6 14 rfl rfl)
theorem dL_law_315 : decode cL_law 315 = .ok (.aload_n 3, 1) := dk_45 (dk_at dksL_law_6 15 rfl rfl)
theorem dL_law_316 : decode cL_law 316 = .ok (.invokestatic 113, 3) := dk_184 0 113 (dk_at dksL_law_6 16 rfl rfl)
theorem dL_law_319 : decode cL_law 319 = .ok (.istore 6, 2) := dk_54 6 (dk_at dksL_law_6 19 rfl rfl)
theorem dL_law_321 : decode cL_law 321 = .ok (.aload_n 2, 1) := dk_44 (dk_at dksL_law_6 21 rfl rfl)
theorem dL_law_322 : decode cL_law 322 = .ok (.aload_n 0, 1) := dk_42 (dk_at dksL_law_6 22 rfl rfl)
theorem dL_law_323 : decode cL_law 323 = .ok (.iload 5, 2) := dk_21 5 (dk_at dksL_law_7 0 rfl rfl)
theorem dL_law_325 : decode cL_law 325 = .ok (.iconst 1, 1) := dk_4 (dk_at dksL_law_7 2 rfl rfl)
theorem dL_law_326 : decode cL_law 326 = .ok (.iadd, 1) := dk_96 (dk_at dksL_law_7 3 rfl rfl)
theorem dL_law_327 : decode cL_law 327 = .ok (.iaload, 1) := dk_46 (dk_at dksL_law_7 4 rfl rfl)
theorem dL_law_328 : decode cL_law 328 = .ok (.aload_n 0, 1) := dk_42 (dk_at dksL_law_7 5 rfl rfl)
theorem dL_law_329 : decode cL_law 329 = .ok (.iload 5, 2) := dk_21 5 (dk_at dksL_law_7 6 rfl rfl)
theorem dL_law_331 : decode cL_law 331 = .ok (.iconst 2, 1) := dk_5 (dk_at dksL_law_7 8 rfl rfl)
theorem dL_law_332 : decode cL_law 332 = .ok (.iadd, 1) := dk_96 (dk_at dksL_law_7 9 rfl rfl)
theorem dL_law_333 : decode cL_law 333 = .ok (.iaload, 1) := dk_46 (dk_at dksL_law_7 10 rfl rfl)
theorem dL_law_334 : decode cL_law 334 = .ok (.aload_n 0, 1) := dk_42 (dk_at dksL_law_7 11 rfl rfl)
theorem dL_law_335 : decode cL_law 335 = .ok (.iload 5, 2) := dk_21 5 (dk_at dksL_law_7 12 rfl rfl)
theorem dL_law_337 : decode cL_law 337 = .ok (.iconst 3, 1) := dk_6 (dk_at dksL_law_7 14 rfl rfl)
theorem dL_law_338 : decode cL_law 338 = .ok (.iadd, 1) := dk_96 (dk_at dksL_law_7 15 rfl rfl)
theorem dL_law_339 : decode cL_law 339 = .ok (.iaload, 1) := dk_46 (dk_at dksL_law_7 16 rfl rfl)
theorem dL_law_340 : decode cL_law 340 = .ok (.invokevirtual 116, 3) := dk_182 0 116 (dk_at dksL_law_7 17 rfl rfl)
theorem dL_law_343 : decode cL_law 343 = .ok (.istore 7, 2) := dk_54 7 (dk_at dksL_law_7 20 rfl rfl)
theorem dL_law_345 : decode cL_law 345 = .ok (.aload_n 2, 1) := dk_44 (dk_at dksL_law_7 22 rfl rfl)
theorem dL_law_346 : decode cL_law 346 = .ok (.invokevirtual 110, 3) := dk_182 0 110 (dk_at dksL_law_8 0 rfl rfl)
theorem dL_law_349 : decode cL_law 349 = .ok (.iload 6, 2) := dk_21 6 (dk_at dksL_law_8 3 rfl rfl)
theorem dL_law_351 : decode cL_law 351 = .ok (.if_icmp .eq 5, 3) := dk_159 0 5 (dk_at dksL_law_8 5 rfl rfl)
theorem dL_law_354 : decode cL_law 354 = .ok (.iconst 0, 1) := dk_3 (dk_at dksL_law_8 8 rfl rfl)
theorem dL_law_355 : decode cL_law 355 = .ok (.ireturn, 1) := dk_172 (dk_at dksL_law_8 9 rfl rfl)
theorem dL_law_356 : decode cL_law 356 = .ok (.iload 6, 2) := dk_21 6 (dk_at dksL_law_8 10 rfl rfl)
theorem dL_law_358 : decode cL_law 358 = .ok (.ifCond .ne 15, 3) := dk_154 0 15 (dk_at dksL_law_8 12 rfl rfl)
theorem dL_law_361 : decode cL_law 361 = .ok (.aload_n 3, 1) := dk_45 (dk_at dksL_law_8 15 rfl rfl)
theorem dL_law_362 : decode cL_law 362 = .ok (.iconst 0, 1) := dk_3 (dk_at dksL_law_8 16 rfl rfl)
theorem dL_law_363 : decode cL_law 363 = .ok (.laload, 1) := dk_47 (dk_at dksL_law_8 17 rfl rfl)
theorem dL_law_364 : decode cL_law 364 = .ok (.iload 7, 2) := dk_21 7 (dk_at dksL_law_8 18 rfl rfl)
theorem dL_law_366 : decode cL_law 366 = .ok (.i2l, 1) := dk_133 (dk_at dksL_law_8 20 rfl rfl)
theorem dL_law_367 : decode cL_law 367 = .ok (.lcmp, 1) := dk_148 (dk_at dksL_law_8 21 rfl rfl)
theorem dL_law_368 : decode cL_law 368 = .ok (.ifCond .eq 5, 3) := dk_153 0 5 (dk_at dksL_law_9 0 rfl rfl)
theorem dL_law_371 : decode cL_law 371 = .ok (.iconst 0, 1) := dk_3 (dk_at dksL_law_9 3 rfl rfl)
theorem dL_law_372 : decode cL_law 372 = .ok (.ireturn, 1) := dk_172 (dk_at dksL_law_9 4 rfl rfl)
theorem dL_law_373 : decode cL_law 373 = .ok (.goto 1750, 3) := dk_167 6 214 (dk_at dksL_law_9 5 rfl rfl)
theorem dL_law_376 : decode cL_law 376 = .ok (.aload_n 1, 1) := dk_43 (dk_at dksL_law_9 8 rfl rfl)
theorem dL_law_377 : decode cL_law 377 = .ok (.aload_n 0, 1) := dk_42 (dk_at dksL_law_9 9 rfl rfl)
theorem dL_law_378 : decode cL_law 378 = .ok (.iload 5, 2) := dk_21 5 (dk_at dksL_law_9 10 rfl rfl)
theorem dL_law_380 : decode cL_law 380 = .ok (.iconst 1, 1) := dk_4 (dk_at dksL_law_9 12 rfl rfl)
theorem dL_law_381 : decode cL_law 381 = .ok (.iadd, 1) := dk_96 (dk_at dksL_law_9 13 rfl rfl)
theorem dL_law_382 : decode cL_law 382 = .ok (.iaload, 1) := dk_46 (dk_at dksL_law_9 14 rfl rfl)
theorem dL_law_383 : decode cL_law 383 = .ok (.aload_n 0, 1) := dk_42 (dk_at dksL_law_9 15 rfl rfl)
theorem dL_law_384 : decode cL_law 384 = .ok (.iload 5, 2) := dk_21 5 (dk_at dksL_law_9 16 rfl rfl)
theorem dL_law_386 : decode cL_law 386 = .ok (.iconst 2, 1) := dk_5 (dk_at dksL_law_9 18 rfl rfl)
theorem dL_law_387 : decode cL_law 387 = .ok (.iadd, 1) := dk_96 (dk_at dksL_law_9 19 rfl rfl)
theorem dL_law_388 : decode cL_law 388 = .ok (.iaload, 1) := dk_46 (dk_at dksL_law_9 20 rfl rfl)
theorem dL_law_389 : decode cL_law 389 = .ok (.i2l, 1) := dk_133 (dk_at dksL_law_9 21 rfl rfl)
theorem dL_law_390 : decode cL_law 390 = .ok (.bipush 32, 2) := dk_16 32 (dk_at dksL_law_9 22 rfl rfl)
theorem dL_law_392 : decode cL_law 392 = .ok (.lshl, 1) := dk_121 (dk_at dksL_law_10 0 rfl rfl)
theorem dL_law_393 : decode cL_law 393 = .ok (.aload_n 0, 1) := dk_42 (dk_at dksL_law_10 1 rfl rfl)
theorem dL_law_394 : decode cL_law 394 = .ok (.iload 5, 2) := dk_21 5 (dk_at dksL_law_10 2 rfl rfl)
theorem dL_law_396 : decode cL_law 396 = .ok (.iconst 3, 1) := dk_6 (dk_at dksL_law_10 4 rfl rfl)
theorem dL_law_397 : decode cL_law 397 = .ok (.iadd, 1) := dk_96 (dk_at dksL_law_10 5 rfl rfl)
theorem dL_law_398 : decode cL_law 398 = .ok (.iaload, 1) := dk_46 (dk_at dksL_law_10 6 rfl rfl)
theorem dL_law_399 : decode cL_law 399 = .ok (.i2l, 1) := dk_133 (dk_at dksL_law_10 7 rfl rfl)
theorem dL_law_400 : decode cL_law 400 = .ok (.ldc2_w 117, 3) := dk_20 0 117 (dk_at dksL_law_10 8 rfl rfl)
theorem dL_law_403 : decode cL_law 403 = .ok (.land, 1) := dk_127 (dk_at dksL_law_10 11 rfl rfl)
theorem dL_law_404 : decode cL_law 404 = .ok (.lor, 1) := dk_129 (dk_at dksL_law_10 12 rfl rfl)
theorem dL_law_405 : decode cL_law 405 = .ok (.aload_n 3, 1) := dk_45 (dk_at dksL_law_10 13 rfl rfl)
theorem dL_law_406 : decode cL_law 406 = .ok (.invokestatic 119, 3) := dk_184 0 119 (dk_at dksL_law_10 14 rfl rfl)
theorem dL_law_409 : decode cL_law 409 = .ok (.istore 6, 2) := dk_54 6 (dk_at dksL_law_10 17 rfl rfl)
theorem dL_law_411 : decode cL_law 411 = .ok (.aload_n 2, 1) := dk_44 (dk_at dksL_law_10 19 rfl rfl)
theorem dL_law_412 : decode cL_law 412 = .ok (.aload_n 0, 1) := dk_42 (dk_at dksL_law_10 20 rfl rfl)
theorem dL_law_413 : decode cL_law 413 = .ok (.iload 5, 2) := dk_21 5 (dk_at dksL_law_10 21 rfl rfl)
theorem dL_law_415 : decode cL_law 415 = .ok (.iconst 1, 1) := dk_4 (dk_at dksL_law_10 23 rfl rfl)
theorem dL_law_416 : decode cL_law 416 = .ok (.iadd, 1) := dk_96 (dk_at dksL_law_11 0 rfl rfl)
theorem dL_law_417 : decode cL_law 417 = .ok (.iaload, 1) := dk_46 (dk_at dksL_law_11 1 rfl rfl)
theorem dL_law_418 : decode cL_law 418 = .ok (.aload_n 0, 1) := dk_42 (dk_at dksL_law_11 2 rfl rfl)
theorem dL_law_419 : decode cL_law 419 = .ok (.iload 5, 2) := dk_21 5 (dk_at dksL_law_11 3 rfl rfl)
theorem dL_law_421 : decode cL_law 421 = .ok (.iconst 2, 1) := dk_5 (dk_at dksL_law_11 5 rfl rfl)
theorem dL_law_422 : decode cL_law 422 = .ok (.iadd, 1) := dk_96 (dk_at dksL_law_11 6 rfl rfl)
theorem dL_law_423 : decode cL_law 423 = .ok (.iaload, 1) := dk_46 (dk_at dksL_law_11 7 rfl rfl)
theorem dL_law_424 : decode cL_law 424 = .ok (.i2l, 1) := dk_133 (dk_at dksL_law_11 8 rfl rfl)
theorem dL_law_425 : decode cL_law 425 = .ok (.bipush 32, 2) := dk_16 32 (dk_at dksL_law_11 9 rfl rfl)
theorem dL_law_427 : decode cL_law 427 = .ok (.lshl, 1) := dk_121 (dk_at dksL_law_11 11 rfl rfl)
theorem dL_law_428 : decode cL_law 428 = .ok (.aload_n 0, 1) := dk_42 (dk_at dksL_law_11 12 rfl rfl)
theorem dL_law_429 : decode cL_law 429 = .ok (.iload 5, 2) := dk_21 5 (dk_at dksL_law_11 13 rfl rfl)
theorem dL_law_431 : decode cL_law 431 = .ok (.iconst 3, 1) := dk_6 (dk_at dksL_law_11 15 rfl rfl)
theorem dL_law_432 : decode cL_law 432 = .ok (.iadd, 1) := dk_96 (dk_at dksL_law_11 16 rfl rfl)
theorem dL_law_433 : decode cL_law 433 = .ok (.iaload, 1) := dk_46 (dk_at dksL_law_11 17 rfl rfl)
theorem dL_law_434 : decode cL_law 434 = .ok (.i2l, 1) := dk_133 (dk_at dksL_law_11 18 rfl rfl)
theorem dL_law_435 : decode cL_law 435 = .ok (.ldc2_w 117, 3) := dk_20 0 117 (dk_at dksL_law_11 19 rfl rfl)
theorem dL_law_438 : decode cL_law 438 = .ok (.land, 1) := dk_127 (dk_at dksL_law_11 22 rfl rfl)
theorem dL_law_439 : decode cL_law 439 = .ok (.lor, 1) := dk_129 (dk_at dksL_law_11 23 rfl rfl)
theorem dL_law_440 : decode cL_law 440 = .ok (.invokevirtual 122, 3) := dk_182 0 122 (dk_at dksL_law_12 0 rfl rfl)
theorem dL_law_443 : decode cL_law 443 = .ok (.istore 7, 2) := dk_54 7 (dk_at dksL_law_12 3 rfl rfl)
theorem dL_law_445 : decode cL_law 445 = .ok (.aload_n 2, 1) := dk_44 (dk_at dksL_law_12 5 rfl rfl)
theorem dL_law_446 : decode cL_law 446 = .ok (.invokevirtual 110, 3) := dk_182 0 110 (dk_at dksL_law_12 6 rfl rfl)
theorem dL_law_449 : decode cL_law 449 = .ok (.iload 6, 2) := dk_21 6 (dk_at dksL_law_12 9 rfl rfl)
theorem dL_law_451 : decode cL_law 451 = .ok (.if_icmp .eq 5, 3) := dk_159 0 5 (dk_at dksL_law_12 11 rfl rfl)
theorem dL_law_454 : decode cL_law 454 = .ok (.iconst 0, 1) := dk_3 (dk_at dksL_law_12 14 rfl rfl)
theorem dL_law_455 : decode cL_law 455 = .ok (.ireturn, 1) := dk_172 (dk_at dksL_law_12 15 rfl rfl)
theorem dL_law_456 : decode cL_law 456 = .ok (.iload 6, 2) := dk_21 6 (dk_at dksL_law_12 16 rfl rfl)
theorem dL_law_458 : decode cL_law 458 = .ok (.ifCond .ne 15, 3) := dk_154 0 15 (dk_at dksL_law_12 18 rfl rfl)
theorem dL_law_461 : decode cL_law 461 = .ok (.aload_n 3, 1) := dk_45 (dk_at dksL_law_12 21 rfl rfl)
theorem dL_law_462 : decode cL_law 462 = .ok (.iconst 0, 1) := dk_3 (dk_at dksL_law_12 22 rfl rfl)
theorem dL_law_463 : decode cL_law 463 = .ok (.laload, 1) := dk_47 (dk_at dksL_law_12 23 rfl rfl)
theorem dL_law_464 : decode cL_law 464 = .ok (.iload 7, 2) := dk_21 7 (dk_at dksL_law_13 0 rfl rfl)
theorem dL_law_466 : decode cL_law 466 = .ok (.i2l, 1) := dk_133 (dk_at dksL_law_13 2 rfl rfl)
theorem dL_law_467 : decode cL_law 467 = .ok (.lcmp, 1) := dk_148 (dk_at dksL_law_13 3 rfl rfl)
theorem dL_law_468 : decode cL_law 468 = .ok (.ifCond .eq 5, 3) := dk_153 0 5 (dk_at dksL_law_13 4 rfl rfl)
theorem dL_law_471 : decode cL_law 471 = .ok (.iconst 0, 1) := dk_3 (dk_at dksL_law_13 7 rfl rfl)
theorem dL_law_472 : decode cL_law 472 = .ok (.ireturn, 1) := dk_172 (dk_at dksL_law_13 8 rfl rfl)
theorem dL_law_473 : decode cL_law 473 = .ok (.goto 1650, 3) := dk_167 6 114 (dk_at dksL_law_13 9 rfl rfl)
theorem dL_law_476 : decode cL_law 476 = .ok (.aload_n 1, 1) := dk_43 (dk_at dksL_law_13 12 rfl rfl)
theorem dL_law_477 : decode cL_law 477 = .ok (.aload_n 0, 1) := dk_42 (dk_at dksL_law_13 13 rfl rfl)
theorem dL_law_478 : decode cL_law 478 = .ok (.iload 5, 2) := dk_21 5 (dk_at dksL_law_13 14 rfl rfl)
theorem dL_law_480 : decode cL_law 480 = .ok (.iconst 1, 1) := dk_4 (dk_at dksL_law_13 16 rfl rfl)
theorem dL_law_481 : decode cL_law 481 = .ok (.iadd, 1) := dk_96 (dk_at dksL_law_13 17 rfl rfl)
theorem dL_law_482 : decode cL_law 482 = .ok (.iaload, 1) := dk_46 (dk_at dksL_law_13 18 rfl rfl)
theorem dL_law_483 : decode cL_law 483 = .ok (.aload_n 0, 1) := dk_42 (dk_at dksL_law_13 19 rfl rfl)
theorem dL_law_484 : decode cL_law 484 = .ok (.iload 5, 2) := dk_21 5 (dk_at dksL_law_13 20 rfl rfl)
theorem dL_law_486 : decode cL_law 486 = .ok (.iconst 2, 1) := dk_5 (dk_at dksL_law_13 22 rfl rfl)
theorem dL_law_487 : decode cL_law 487 = .ok (.iadd, 1) := dk_96 (dk_at dksL_law_13 23 rfl rfl)
theorem dL_law_488 : decode cL_law 488 = .ok (.iaload, 1) := dk_46 (dk_at dksL_law_14 0 rfl rfl)
theorem dL_law_489 : decode cL_law 489 = .ok (.aload_n 3, 1) := dk_45 (dk_at dksL_law_14 1 rfl rfl)
theorem dL_law_490 : decode cL_law 490 = .ok (.invokestatic 123, 3) := dk_184 0 123 (dk_at dksL_law_14 2 rfl rfl)
theorem dL_law_493 : decode cL_law 493 = .ok (.istore 6, 2) := dk_54 6 (dk_at dksL_law_14 5 rfl rfl)
theorem dL_law_495 : decode cL_law 495 = .ok (.aload_n 2, 1) := dk_44 (dk_at dksL_law_14 7 rfl rfl)
theorem dL_law_496 : decode cL_law 496 = .ok (.aload_n 0, 1) := dk_42 (dk_at dksL_law_14 8 rfl rfl)
theorem dL_law_497 : decode cL_law 497 = .ok (.iload 5, 2) := dk_21 5 (dk_at dksL_law_14 9 rfl rfl)
theorem dL_law_499 : decode cL_law 499 = .ok (.iconst 1, 1) := dk_4 (dk_at dksL_law_14 11 rfl rfl)
theorem dL_law_500 : decode cL_law 500 = .ok (.iadd, 1) := dk_96 (dk_at dksL_law_14 12 rfl rfl)
theorem dL_law_501 : decode cL_law 501 = .ok (.iaload, 1) := dk_46 (dk_at dksL_law_14 13 rfl rfl)
theorem dL_law_502 : decode cL_law 502 = .ok (.aload_n 0, 1) := dk_42 (dk_at dksL_law_14 14 rfl rfl)
theorem dL_law_503 : decode cL_law 503 = .ok (.iload 5, 2) := dk_21 5 (dk_at dksL_law_14 15 rfl rfl)
theorem dL_law_505 : decode cL_law 505 = .ok (.iconst 2, 1) := dk_5 (dk_at dksL_law_14 17 rfl rfl)
theorem dL_law_506 : decode cL_law 506 = .ok (.iadd, 1) := dk_96 (dk_at dksL_law_14 18 rfl rfl)
theorem dL_law_507 : decode cL_law 507 = .ok (.iaload, 1) := dk_46 (dk_at dksL_law_14 19 rfl rfl)
theorem dL_law_508 : decode cL_law 508 = .ok (.invokevirtual 125, 3) := dk_182 0 125 (dk_at dksL_law_14 20 rfl rfl)
theorem dL_law_511 : decode cL_law 511 = .ok (.istore 7, 2) := dk_54 7 (dk_at dksL_law_15 0 rfl rfl)
theorem dL_law_513 : decode cL_law 513 = .ok (.aload_n 2, 1) := dk_44 (dk_at dksL_law_15 2 rfl rfl)
theorem dL_law_514 : decode cL_law 514 = .ok (.invokevirtual 110, 3) := dk_182 0 110 (dk_at dksL_law_15 3 rfl rfl)
theorem dL_law_517 : decode cL_law 517 = .ok (.iload 6, 2) := dk_21 6 (dk_at dksL_law_15 6 rfl rfl)
theorem dL_law_519 : decode cL_law 519 = .ok (.if_icmp .eq 5, 3) := dk_159 0 5 (dk_at dksL_law_15 8 rfl rfl)
theorem dL_law_522 : decode cL_law 522 = .ok (.iconst 0, 1) := dk_3 (dk_at dksL_law_15 11 rfl rfl)
theorem dL_law_523 : decode cL_law 523 = .ok (.ireturn, 1) := dk_172 (dk_at dksL_law_15 12 rfl rfl)
theorem dL_law_524 : decode cL_law 524 = .ok (.iload 6, 2) := dk_21 6 (dk_at dksL_law_15 13 rfl rfl)
theorem dL_law_526 : decode cL_law 526 = .ok (.ifCond .ne 15, 3) := dk_154 0 15 (dk_at dksL_law_15 15 rfl rfl)
theorem dL_law_529 : decode cL_law 529 = .ok (.aload_n 3, 1) := dk_45 (dk_at dksL_law_15 18 rfl rfl)
theorem dL_law_530 : decode cL_law 530 = .ok (.iconst 0, 1) := dk_3 (dk_at dksL_law_15 19 rfl rfl)
theorem dL_law_531 : decode cL_law 531 = .ok (.laload, 1) := dk_47 (dk_at dksL_law_15 20 rfl rfl)
theorem dL_law_532 : decode cL_law 532 = .ok (.iload 7, 2) := dk_21 7 (dk_at dksL_law_15 21 rfl rfl)
theorem dL_law_534 : decode cL_law 534 = .ok (.i2l, 1) := dk_133 (dk_at dksL_law_15 23 rfl rfl)
theorem dL_law_535 : decode cL_law 535 = .ok (.lcmp, 1) := dk_148 (dk_at dksL_law_16 0 rfl rfl)
theorem dL_law_536 : decode cL_law 536 = .ok (.ifCond .eq 5, 3) := dk_153 0 5 (dk_at dksL_law_16 1 rfl rfl)
theorem dL_law_539 : decode cL_law 539 = .ok (.iconst 0, 1) := dk_3 (dk_at dksL_law_16 4 rfl rfl)
theorem dL_law_540 : decode cL_law 540 = .ok (.ireturn, 1) := dk_172 (dk_at dksL_law_16 5 rfl rfl)
theorem dL_law_541 : decode cL_law 541 = .ok (.goto 1582, 3) := dk_167 6 46 (dk_at dksL_law_16 6 rfl rfl)
theorem dL_law_544 : decode cL_law 544 = .ok (.aload_n 1, 1) := dk_43 (dk_at dksL_law_16 9 rfl rfl)
theorem dL_law_545 : decode cL_law 545 = .ok (.aload_n 0, 1) := dk_42 (dk_at dksL_law_16 10 rfl rfl)
theorem dL_law_546 : decode cL_law 546 = .ok (.iload 5, 2) := dk_21 5 (dk_at dksL_law_16 11 rfl rfl)
theorem dL_law_548 : decode cL_law 548 = .ok (.iconst 1, 1) := dk_4 (dk_at dksL_law_16 13 rfl rfl)
theorem dL_law_549 : decode cL_law 549 = .ok (.iadd, 1) := dk_96 (dk_at dksL_law_16 14 rfl rfl)
theorem dL_law_550 : decode cL_law 550 = .ok (.iaload, 1) := dk_46 (dk_at dksL_law_16 15 rfl rfl)
theorem dL_law_551 : decode cL_law 551 = .ok (.aload_n 0, 1) := dk_42 (dk_at dksL_law_16 16 rfl rfl)
theorem dL_law_552 : decode cL_law 552 = .ok (.iload 5, 2) := dk_21 5 (dk_at dksL_law_16 17 rfl rfl)
theorem dL_law_554 : decode cL_law 554 = .ok (.iconst 2, 1) := dk_5 (dk_at dksL_law_16 19 rfl rfl)
theorem dL_law_555 : decode cL_law 555 = .ok (.iadd, 1) := dk_96 (dk_at dksL_law_16 20 rfl rfl)
theorem dL_law_556 : decode cL_law 556 = .ok (.iaload, 1) := dk_46 (dk_at dksL_law_16 21 rfl rfl)
theorem dL_law_557 : decode cL_law 557 = .ok (.aload_n 0, 1) := dk_42 (dk_at dksL_law_16 22 rfl rfl)
theorem dL_law_558 : decode cL_law 558 = .ok (.iload 5, 2) := dk_21 5 (dk_at dksL_law_17 0 rfl rfl)
theorem dL_law_560 : decode cL_law 560 = .ok (.iconst 3, 1) := dk_6 (dk_at dksL_law_17 2 rfl rfl)
theorem dL_law_561 : decode cL_law 561 = .ok (.iadd, 1) := dk_96 (dk_at dksL_law_17 3 rfl rfl)
theorem dL_law_562 : decode cL_law 562 = .ok (.iaload, 1) := dk_46 (dk_at dksL_law_17 4 rfl rfl)
theorem dL_law_563 : decode cL_law 563 = .ok (.ifCond .eq 7, 3) := dk_153 0 7 (dk_at dksL_law_17 5 rfl rfl)
theorem dL_law_566 : decode cL_law 566 = .ok (.iconst 1, 1) := dk_4 (dk_at dksL_law_17 8 rfl rfl)
theorem dL_law_567 : decode cL_law 567 = .ok (.goto 4, 3) := dk_167 0 4 (dk_at dksL_law_17 9 rfl rfl)
theorem dL_law_570 : decode cL_law 570 = .ok (.iconst 0, 1) := dk_3 (dk_at dksL_law_17 12 rfl rfl)
theorem dL_law_571 : decode cL_law 571 = .ok (.aload_n 3, 1) := dk_45 (dk_at dksL_law_17 13 rfl rfl)
theorem dL_law_572 : decode cL_law 572 = .ok (.invokestatic 126, 3) := dk_184 0 126 (dk_at dksL_law_17 14 rfl rfl)
theorem dL_law_575 : decode cL_law 575 = .ok (.istore 6, 2) := dk_54 6 (dk_at dksL_law_17 17 rfl rfl)
theorem dL_law_577 : decode cL_law 577 = .ok (.aload_n 2, 1) := dk_44 (dk_at dksL_law_17 19 rfl rfl)
theorem dL_law_578 : decode cL_law 578 = .ok (.aload_n 0, 1) := dk_42 (dk_at dksL_law_17 20 rfl rfl)
theorem dL_law_579 : decode cL_law 579 = .ok (.iload 5, 2) := dk_21 5 (dk_at dksL_law_17 21 rfl rfl)
theorem dL_law_581 : decode cL_law 581 = .ok (.iconst 1, 1) := dk_4 (dk_at dksL_law_17 23 rfl rfl)
theorem dL_law_582 : decode cL_law 582 = .ok (.iadd, 1) := dk_96 (dk_at dksL_law_18 0 rfl rfl)
theorem dL_law_583 : decode cL_law 583 = .ok (.iaload, 1) := dk_46 (dk_at dksL_law_18 1 rfl rfl)
theorem dL_law_584 : decode cL_law 584 = .ok (.aload_n 0, 1) := dk_42 (dk_at dksL_law_18 2 rfl rfl)
theorem dL_law_585 : decode cL_law 585 = .ok (.iload 5, 2) := dk_21 5 (dk_at dksL_law_18 3 rfl rfl)
theorem dL_law_587 : decode cL_law 587 = .ok (.iconst 2, 1) := dk_5 (dk_at dksL_law_18 5 rfl rfl)
theorem dL_law_588 : decode cL_law 588 = .ok (.iadd, 1) := dk_96 (dk_at dksL_law_18 6 rfl rfl)
theorem dL_law_589 : decode cL_law 589 = .ok (.iaload, 1) := dk_46 (dk_at dksL_law_18 7 rfl rfl)
theorem dL_law_590 : decode cL_law 590 = .ok (.aload_n 0, 1) := dk_42 (dk_at dksL_law_18 8 rfl rfl)
theorem dL_law_591 : decode cL_law 591 = .ok (.iload 5, 2) := dk_21 5 (dk_at dksL_law_18 9 rfl rfl)
theorem dL_law_593 : decode cL_law 593 = .ok (.iconst 3, 1) := dk_6 (dk_at dksL_law_18 11 rfl rfl)
theorem dL_law_594 : decode cL_law 594 = .ok (.iadd, 1) := dk_96 (dk_at dksL_law_18 12 rfl rfl)
theorem dL_law_595 : decode cL_law 595 = .ok (.iaload, 1) := dk_46 (dk_at dksL_law_18 13 rfl rfl)
theorem dL_law_596 : decode cL_law 596 = .ok (.ifCond .eq 7, 3) := dk_153 0 7 (dk_at dksL_law_18 14 rfl rfl)
theorem dL_law_599 : decode cL_law 599 = .ok (.iconst 1, 1) := dk_4 (dk_at dksL_law_18 17 rfl rfl)
theorem dL_law_600 : decode cL_law 600 = .ok (.goto 4, 3) := dk_167 0 4 (dk_at dksL_law_18 18 rfl rfl)
theorem dL_law_603 : decode cL_law 603 = .ok (.iconst 0, 1) := dk_3 (dk_at dksL_law_18 21 rfl rfl)
theorem dL_law_604 : decode cL_law 604 = .ok (.invokevirtual 129, 3) := dk_182 0 129 (dk_at dksL_law_19 0 rfl rfl)
theorem dL_law_607 : decode cL_law 607 = .ok (.istore 7, 2) := dk_54 7 (dk_at dksL_law_19 3 rfl rfl)
theorem dL_law_609 : decode cL_law 609 = .ok (.aload_n 2, 1) := dk_44 (dk_at dksL_law_19 5 rfl rfl)
theorem dL_law_610 : decode cL_law 610 = .ok (.invokevirtual 110, 3) := dk_182 0 110 (dk_at dksL_law_19 6 rfl rfl)
theorem dL_law_613 : decode cL_law 613 = .ok (.iload 6, 2) := dk_21 6 (dk_at dksL_law_19 9 rfl rfl)
theorem dL_law_615 : decode cL_law 615 = .ok (.if_icmp .eq 5, 3) := dk_159 0 5 (dk_at dksL_law_19 11 rfl rfl)
theorem dL_law_618 : decode cL_law 618 = .ok (.iconst 0, 1) := dk_3 (dk_at dksL_law_19 14 rfl rfl)
theorem dL_law_619 : decode cL_law 619 = .ok (.ireturn, 1) := dk_172 (dk_at dksL_law_19 15 rfl rfl)
theorem dL_law_620 : decode cL_law 620 = .ok (.iload 6, 2) := dk_21 6 (dk_at dksL_law_19 16 rfl rfl)
theorem dL_law_622 : decode cL_law 622 = .ok (.ifCond .ne 15, 3) := dk_154 0 15 (dk_at dksL_law_19 18 rfl rfl)
theorem dL_law_625 : decode cL_law 625 = .ok (.aload_n 3, 1) := dk_45 (dk_at dksL_law_19 21 rfl rfl)
theorem dL_law_626 : decode cL_law 626 = .ok (.iconst 0, 1) := dk_3 (dk_at dksL_law_19 22 rfl rfl)
theorem dL_law_627 : decode cL_law 627 = .ok (.laload, 1) := dk_47 (dk_at dksL_law_19 23 rfl rfl)
theorem dL_law_628 : decode cL_law 628 = .ok (.iload 7, 2) := dk_21 7 (dk_at dksL_law_20 0 rfl rfl)
theorem dL_law_630 : decode cL_law 630 = .ok (.i2l, 1) := dk_133 (dk_at dksL_law_20 2 rfl rfl)
theorem dL_law_631 : decode cL_law 631 = .ok (.lcmp, 1) := dk_148 (dk_at dksL_law_20 3 rfl rfl)
theorem dL_law_632 : decode cL_law 632 = .ok (.ifCond .eq 5, 3) := dk_153 0 5 (dk_at dksL_law_20 4 rfl rfl)
theorem dL_law_635 : decode cL_law 635 = .ok (.iconst 0, 1) := dk_3 (dk_at dksL_law_20 7 rfl rfl)
theorem dL_law_636 : decode cL_law 636 = .ok (.ireturn, 1) := dk_172 (dk_at dksL_law_20 8 rfl rfl)
theorem dL_law_637 : decode cL_law 637 = .ok (.goto 1486, 3) := dk_167 5 206 (dk_at dksL_law_20 9 rfl rfl)
theorem dL_law_640 : decode cL_law 640 = .ok (.aload_n 1, 1) := dk_43 (dk_at dksL_law_20 12 rfl rfl)
theorem dL_law_641 : decode cL_law 641 = .ok (.aload_n 0, 1) := dk_42 (dk_at dksL_law_20 13 rfl rfl)
theorem dL_law_642 : decode cL_law 642 = .ok (.iload 5, 2) := dk_21 5 (dk_at dksL_law_20 14 rfl rfl)
theorem dL_law_644 : decode cL_law 644 = .ok (.iconst 1, 1) := dk_4 (dk_at dksL_law_20 16 rfl rfl)
theorem dL_law_645 : decode cL_law 645 = .ok (.iadd, 1) := dk_96 (dk_at dksL_law_20 17 rfl rfl)
theorem dL_law_646 : decode cL_law 646 = .ok (.iaload, 1) := dk_46 (dk_at dksL_law_20 18 rfl rfl)
theorem dL_law_647 : decode cL_law 647 = .ok (.aload_n 0, 1) := dk_42 (dk_at dksL_law_20 19 rfl rfl)
theorem dL_law_648 : decode cL_law 648 = .ok (.iload 5, 2) := dk_21 5 (dk_at dksL_law_20 20 rfl rfl)
theorem dL_law_650 : decode cL_law 650 = .ok (.iconst 2, 1) := dk_5 (dk_at dksL_law_20 22 rfl rfl)
theorem dL_law_651 : decode cL_law 651 = .ok (.iadd, 1) := dk_96 (dk_at dksL_law_20 23 rfl rfl)
theorem dL_law_652 : decode cL_law 652 = .ok (.iaload, 1) := dk_46 (dk_at dksL_law_21 0 rfl rfl)
theorem dL_law_653 : decode cL_law 653 = .ok (.aload_n 3, 1) := dk_45 (dk_at dksL_law_21 1 rfl rfl)
theorem dL_law_654 : decode cL_law 654 = .ok (.invokestatic 130, 3) := dk_184 0 130 (dk_at dksL_law_21 2 rfl rfl)
theorem dL_law_657 : decode cL_law 657 = .ok (.istore 6, 2) := dk_54 6 (dk_at dksL_law_21 5 rfl rfl)
theorem dL_law_659 : decode cL_law 659 = .ok (.aload_n 2, 1) := dk_44 (dk_at dksL_law_21 7 rfl rfl)
theorem dL_law_660 : decode cL_law 660 = .ok (.aload_n 0, 1) := dk_42 (dk_at dksL_law_21 8 rfl rfl)
theorem dL_law_661 : decode cL_law 661 = .ok (.iload 5, 2) := dk_21 5 (dk_at dksL_law_21 9 rfl rfl)
theorem dL_law_663 : decode cL_law 663 = .ok (.iconst 1, 1) := dk_4 (dk_at dksL_law_21 11 rfl rfl)
theorem dL_law_664 : decode cL_law 664 = .ok (.iadd, 1) := dk_96 (dk_at dksL_law_21 12 rfl rfl)
theorem dL_law_665 : decode cL_law 665 = .ok (.iaload, 1) := dk_46 (dk_at dksL_law_21 13 rfl rfl)
theorem dL_law_666 : decode cL_law 666 = .ok (.aload_n 0, 1) := dk_42 (dk_at dksL_law_21 14 rfl rfl)
theorem dL_law_667 : decode cL_law 667 = .ok (.iload 5, 2) := dk_21 5 (dk_at dksL_law_21 15 rfl rfl)
theorem dL_law_669 : decode cL_law 669 = .ok (.iconst 2, 1) := dk_5 (dk_at dksL_law_21 17 rfl rfl)
theorem dL_law_670 : decode cL_law 670 = .ok (.iadd, 1) := dk_96 (dk_at dksL_law_21 18 rfl rfl)
theorem dL_law_671 : decode cL_law 671 = .ok (.iaload, 1) := dk_46 (dk_at dksL_law_21 19 rfl rfl)
theorem dL_law_672 : decode cL_law 672 = .ok (.invokevirtual 132, 3) := dk_182 0 132 (dk_at dksL_law_21 20 rfl rfl)
theorem dL_law_675 : decode cL_law 675 = .ok (.istore 7, 2) := dk_54 7 (dk_at dksL_law_22 0 rfl rfl)
theorem dL_law_677 : decode cL_law 677 = .ok (.aload_n 2, 1) := dk_44 (dk_at dksL_law_22 2 rfl rfl)
theorem dL_law_678 : decode cL_law 678 = .ok (.invokevirtual 110, 3) := dk_182 0 110 (dk_at dksL_law_22 3 rfl rfl)
theorem dL_law_681 : decode cL_law 681 = .ok (.iload 6, 2) := dk_21 6 (dk_at dksL_law_22 6 rfl rfl)
theorem dL_law_683 : decode cL_law 683 = .ok (.if_icmp .eq 5, 3) := dk_159 0 5 (dk_at dksL_law_22 8 rfl rfl)
theorem dL_law_686 : decode cL_law 686 = .ok (.iconst 0, 1) := dk_3 (dk_at dksL_law_22 11 rfl rfl)
theorem dL_law_687 : decode cL_law 687 = .ok (.ireturn, 1) := dk_172 (dk_at dksL_law_22 12 rfl rfl)
theorem dL_law_688 : decode cL_law 688 = .ok (.iload 6, 2) := dk_21 6 (dk_at dksL_law_22 13 rfl rfl)
theorem dL_law_690 : decode cL_law 690 = .ok (.ifCond .ne 15, 3) := dk_154 0 15 (dk_at dksL_law_22 15 rfl rfl)
theorem dL_law_693 : decode cL_law 693 = .ok (.aload_n 3, 1) := dk_45 (dk_at dksL_law_22 18 rfl rfl)
theorem dL_law_694 : decode cL_law 694 = .ok (.iconst 0, 1) := dk_3 (dk_at dksL_law_22 19 rfl rfl)
theorem dL_law_695 : decode cL_law 695 = .ok (.laload, 1) := dk_47 (dk_at dksL_law_22 20 rfl rfl)
theorem dL_law_696 : decode cL_law 696 = .ok (.iload 7, 2) := dk_21 7 (dk_at dksL_law_22 21 rfl rfl)
theorem dL_law_698 : decode cL_law 698 = .ok (.i2l, 1) := dk_133 (dk_at dksL_law_22 23 rfl rfl)
theorem dL_law_699 : decode cL_law 699 = .ok (.lcmp, 1) := dk_148 (dk_at dksL_law_23 0 rfl rfl)
theorem dL_law_700 : decode cL_law 700 = .ok (.ifCond .eq 5, 3) := dk_153 0 5 (dk_at dksL_law_23 1 rfl rfl)
theorem dL_law_703 : decode cL_law 703 = .ok (.iconst 0, 1) := dk_3 (dk_at dksL_law_23 4 rfl rfl)
theorem dL_law_704 : decode cL_law 704 = .ok (.ireturn, 1) := dk_172 (dk_at dksL_law_23 5 rfl rfl)
theorem dL_law_705 : decode cL_law 705 = .ok (.goto 1418, 3) := dk_167 5 138 (dk_at dksL_law_23 6 rfl rfl)
theorem dL_law_708 : decode cL_law 708 = .ok (.aload_n 1, 1) := dk_43 (dk_at dksL_law_23 9 rfl rfl)
theorem dL_law_709 : decode cL_law 709 = .ok (.aload_n 0, 1) := dk_42 (dk_at dksL_law_23 10 rfl rfl)
theorem dL_law_710 : decode cL_law 710 = .ok (.iload 5, 2) := dk_21 5 (dk_at dksL_law_23 11 rfl rfl)
theorem dL_law_712 : decode cL_law 712 = .ok (.iconst 1, 1) := dk_4 (dk_at dksL_law_23 13 rfl rfl)
theorem dL_law_713 : decode cL_law 713 = .ok (.iadd, 1) := dk_96 (dk_at dksL_law_23 14 rfl rfl)
theorem dL_law_714 : decode cL_law 714 = .ok (.iaload, 1) := dk_46 (dk_at dksL_law_23 15 rfl rfl)
theorem dL_law_715 : decode cL_law 715 = .ok (.aload_n 0, 1) := dk_42 (dk_at dksL_law_23 16 rfl rfl)
theorem dL_law_716 : decode cL_law 716 = .ok (.iload 5, 2) := dk_21 5 (dk_at dksL_law_23 17 rfl rfl)
theorem dL_law_718 : decode cL_law 718 = .ok (.iconst 2, 1) := dk_5 (dk_at dksL_law_23 19 rfl rfl)
theorem dL_law_719 : decode cL_law 719 = .ok (.iadd, 1) := dk_96 (dk_at dksL_law_23 20 rfl rfl)
theorem dL_law_720 : decode cL_law 720 = .ok (.iaload, 1) := dk_46 (dk_at dksL_law_23 21 rfl rfl)
theorem dL_law_721 : decode cL_law 721 = .ok (.aload_n 3, 1) := dk_45 (dk_at dksL_law_23 22 rfl rfl)
theorem dL_law_722 : decode cL_law 722 = .ok (.invokestatic 133, 3) := dk_184 0 133 (dk_at dksL_law_24 0 rfl rfl)
theorem dL_law_725 : decode cL_law 725 = .ok (.istore 6, 2) := dk_54 6 (dk_at dksL_law_24 3 rfl rfl)
theorem dL_law_727 : decode cL_law 727 = .ok (.aload_n 2, 1) := dk_44 (dk_at dksL_law_24 5 rfl rfl)
theorem dL_law_728 : decode cL_law 728 = .ok (.aload_n 0, 1) := dk_42 (dk_at dksL_law_24 6 rfl rfl)
theorem dL_law_729 : decode cL_law 729 = .ok (.iload 5, 2) := dk_21 5 (dk_at dksL_law_24 7 rfl rfl)
theorem dL_law_731 : decode cL_law 731 = .ok (.iconst 1, 1) := dk_4 (dk_at dksL_law_24 9 rfl rfl)
theorem dL_law_732 : decode cL_law 732 = .ok (.iadd, 1) := dk_96 (dk_at dksL_law_24 10 rfl rfl)
theorem dL_law_733 : decode cL_law 733 = .ok (.iaload, 1) := dk_46 (dk_at dksL_law_24 11 rfl rfl)
theorem dL_law_734 : decode cL_law 734 = .ok (.aload_n 0, 1) := dk_42 (dk_at dksL_law_24 12 rfl rfl)
theorem dL_law_735 : decode cL_law 735 = .ok (.iload 5, 2) := dk_21 5 (dk_at dksL_law_24 13 rfl rfl)
theorem dL_law_737 : decode cL_law 737 = .ok (.iconst 2, 1) := dk_5 (dk_at dksL_law_24 15 rfl rfl)
theorem dL_law_738 : decode cL_law 738 = .ok (.iadd, 1) := dk_96 (dk_at dksL_law_24 16 rfl rfl)
theorem dL_law_739 : decode cL_law 739 = .ok (.iaload, 1) := dk_46 (dk_at dksL_law_24 17 rfl rfl)
theorem dL_law_740 : decode cL_law 740 = .ok (.invokevirtual 135, 3) := dk_182 0 135 (dk_at dksL_law_24 18 rfl rfl)
theorem dL_law_743 : decode cL_law 743 = .ok (.istore 7, 2) := dk_54 7 (dk_at dksL_law_24 21 rfl rfl)
theorem dL_law_745 : decode cL_law 745 = .ok (.aload_n 2, 1) := dk_44 (dk_at dksL_law_24 23 rfl rfl)
theorem dL_law_746 : decode cL_law 746 = .ok (.invokevirtual 110, 3) := dk_182 0 110 (dk_at dksL_law_25 0 rfl rfl)
theorem dL_law_749 : decode cL_law 749 = .ok (.iload 6, 2) := dk_21 6 (dk_at dksL_law_25 3 rfl rfl)
theorem dL_law_751 : decode cL_law 751 = .ok (.if_icmp .eq 5, 3) := dk_159 0 5 (dk_at dksL_law_25 5 rfl rfl)
theorem dL_law_754 : decode cL_law 754 = .ok (.iconst 0, 1) := dk_3 (dk_at dksL_law_25 8 rfl rfl)
theorem dL_law_755 : decode cL_law 755 = .ok (.ireturn, 1) := dk_172 (dk_at dksL_law_25 9 rfl rfl)
theorem dL_law_756 : decode cL_law 756 = .ok (.iload 6, 2) := dk_21 6 (dk_at dksL_law_25 10 rfl rfl)
theorem dL_law_758 : decode cL_law 758 = .ok (.ifCond .ne 15, 3) := dk_154 0 15 (dk_at dksL_law_25 12 rfl rfl)
theorem dL_law_761 : decode cL_law 761 = .ok (.aload_n 3, 1) := dk_45 (dk_at dksL_law_25 15 rfl rfl)
theorem dL_law_762 : decode cL_law 762 = .ok (.iconst 0, 1) := dk_3 (dk_at dksL_law_25 16 rfl rfl)
theorem dL_law_763 : decode cL_law 763 = .ok (.laload, 1) := dk_47 (dk_at dksL_law_25 17 rfl rfl)
theorem dL_law_764 : decode cL_law 764 = .ok (.iload 7, 2) := dk_21 7 (dk_at dksL_law_25 18 rfl rfl)
theorem dL_law_766 : decode cL_law 766 = .ok (.i2l, 1) := dk_133 (dk_at dksL_law_25 20 rfl rfl)
theorem dL_law_767 : decode cL_law 767 = .ok (.lcmp, 1) := dk_148 (dk_at dksL_law_25 21 rfl rfl)
theorem dL_law_768 : decode cL_law 768 = .ok (.ifCond .eq 5, 3) := dk_153 0 5 (dk_at dksL_law_26 0 rfl rfl)
theorem dL_law_771 : decode cL_law 771 = .ok (.iconst 0, 1) := dk_3 (dk_at dksL_law_26 3 rfl rfl)
theorem dL_law_772 : decode cL_law 772 = .ok (.ireturn, 1) := dk_172 (dk_at dksL_law_26 4 rfl rfl)
theorem dL_law_773 : decode cL_law 773 = .ok (.goto 1350, 3) := dk_167 5 70 (dk_at dksL_law_26 5 rfl rfl)
theorem dL_law_776 : decode cL_law 776 = .ok (.aload_n 1, 1) := dk_43 (dk_at dksL_law_26 8 rfl rfl)
theorem dL_law_777 : decode cL_law 777 = .ok (.aload_n 0, 1) := dk_42 (dk_at dksL_law_26 9 rfl rfl)
theorem dL_law_778 : decode cL_law 778 = .ok (.iload 5, 2) := dk_21 5 (dk_at dksL_law_26 10 rfl rfl)
theorem dL_law_780 : decode cL_law 780 = .ok (.iconst 1, 1) := dk_4 (dk_at dksL_law_26 12 rfl rfl)
theorem dL_law_781 : decode cL_law 781 = .ok (.iadd, 1) := dk_96 (dk_at dksL_law_26 13 rfl rfl)
theorem dL_law_782 : decode cL_law 782 = .ok (.iaload, 1) := dk_46 (dk_at dksL_law_26 14 rfl rfl)
theorem dL_law_783 : decode cL_law 783 = .ok (.aload_n 0, 1) := dk_42 (dk_at dksL_law_26 15 rfl rfl)
theorem dL_law_784 : decode cL_law 784 = .ok (.iload 5, 2) := dk_21 5 (dk_at dksL_law_26 16 rfl rfl)
theorem dL_law_786 : decode cL_law 786 = .ok (.iconst 2, 1) := dk_5 (dk_at dksL_law_26 18 rfl rfl)
theorem dL_law_787 : decode cL_law 787 = .ok (.iadd, 1) := dk_96 (dk_at dksL_law_26 19 rfl rfl)
theorem dL_law_788 : decode cL_law 788 = .ok (.iaload, 1) := dk_46 (dk_at dksL_law_26 20 rfl rfl)
theorem dL_law_789 : decode cL_law 789 = .ok (.aload_n 3, 1) := dk_45 (dk_at dksL_law_26 21 rfl rfl)
theorem dL_law_790 : decode cL_law 790 = .ok (.invokestatic 136, 3) := dk_184 0 136 (dk_at dksL_law_27 0 rfl rfl)
theorem dL_law_793 : decode cL_law 793 = .ok (.istore 6, 2) := dk_54 6 (dk_at dksL_law_27 3 rfl rfl)
theorem dL_law_795 : decode cL_law 795 = .ok (.aload_n 2, 1) := dk_44 (dk_at dksL_law_27 5 rfl rfl)
theorem dL_law_796 : decode cL_law 796 = .ok (.aload_n 0, 1) := dk_42 (dk_at dksL_law_27 6 rfl rfl)
theorem dL_law_797 : decode cL_law 797 = .ok (.iload 5, 2) := dk_21 5 (dk_at dksL_law_27 7 rfl rfl)
theorem dL_law_799 : decode cL_law 799 = .ok (.iconst 1, 1) := dk_4 (dk_at dksL_law_27 9 rfl rfl)
theorem dL_law_800 : decode cL_law 800 = .ok (.iadd, 1) := dk_96 (dk_at dksL_law_27 10 rfl rfl)
theorem dL_law_801 : decode cL_law 801 = .ok (.iaload, 1) := dk_46 (dk_at dksL_law_27 11 rfl rfl)
theorem dL_law_802 : decode cL_law 802 = .ok (.aload_n 0, 1) := dk_42 (dk_at dksL_law_27 12 rfl rfl)
theorem dL_law_803 : decode cL_law 803 = .ok (.iload 5, 2) := dk_21 5 (dk_at dksL_law_27 13 rfl rfl)
theorem dL_law_805 : decode cL_law 805 = .ok (.iconst 2, 1) := dk_5 (dk_at dksL_law_27 15 rfl rfl)
theorem dL_law_806 : decode cL_law 806 = .ok (.iadd, 1) := dk_96 (dk_at dksL_law_27 16 rfl rfl)
theorem dL_law_807 : decode cL_law 807 = .ok (.iaload, 1) := dk_46 (dk_at dksL_law_27 17 rfl rfl)
theorem dL_law_808 : decode cL_law 808 = .ok (.invokevirtual 138, 3) := dk_182 0 138 (dk_at dksL_law_27 18 rfl rfl)
theorem dL_law_811 : decode cL_law 811 = .ok (.istore 7, 2) := dk_54 7 (dk_at dksL_law_27 21 rfl rfl)
theorem dL_law_813 : decode cL_law 813 = .ok (.aload_n 2, 1) := dk_44 (dk_at dksL_law_27 23 rfl rfl)
theorem dL_law_814 : decode cL_law 814 = .ok (.invokevirtual 110, 3) := dk_182 0 110 (dk_at dksL_law_28 0 rfl rfl)
theorem dL_law_817 : decode cL_law 817 = .ok (.iload 6, 2) := dk_21 6 (dk_at dksL_law_28 3 rfl rfl)
theorem dL_law_819 : decode cL_law 819 = .ok (.if_icmp .eq 5, 3) := dk_159 0 5 (dk_at dksL_law_28 5 rfl rfl)
theorem dL_law_822 : decode cL_law 822 = .ok (.iconst 0, 1) := dk_3 (dk_at dksL_law_28 8 rfl rfl)
theorem dL_law_823 : decode cL_law 823 = .ok (.ireturn, 1) := dk_172 (dk_at dksL_law_28 9 rfl rfl)
theorem dL_law_824 : decode cL_law 824 = .ok (.iload 6, 2) := dk_21 6 (dk_at dksL_law_28 10 rfl rfl)
theorem dL_law_826 : decode cL_law 826 = .ok (.ifCond .ne 15, 3) := dk_154 0 15 (dk_at dksL_law_28 12 rfl rfl)
theorem dL_law_829 : decode cL_law 829 = .ok (.aload_n 3, 1) := dk_45 (dk_at dksL_law_28 15 rfl rfl)
theorem dL_law_830 : decode cL_law 830 = .ok (.iconst 0, 1) := dk_3 (dk_at dksL_law_28 16 rfl rfl)
theorem dL_law_831 : decode cL_law 831 = .ok (.laload, 1) := dk_47 (dk_at dksL_law_28 17 rfl rfl)
theorem dL_law_832 : decode cL_law 832 = .ok (.iload 7, 2) := dk_21 7 (dk_at dksL_law_28 18 rfl rfl)
theorem dL_law_834 : decode cL_law 834 = .ok (.i2l, 1) := dk_133 (dk_at dksL_law_28 20 rfl rfl)
theorem dL_law_835 : decode cL_law 835 = .ok (.lcmp, 1) := dk_148 (dk_at dksL_law_28 21 rfl rfl)
theorem dL_law_836 : decode cL_law 836 = .ok (.ifCond .eq 5, 3) := dk_153 0 5 (dk_at dksL_law_29 0 rfl rfl)
theorem dL_law_839 : decode cL_law 839 = .ok (.iconst 0, 1) := dk_3 (dk_at dksL_law_29 3 rfl rfl)
theorem dL_law_840 : decode cL_law 840 = .ok (.ireturn, 1) := dk_172 (dk_at dksL_law_29 4 rfl rfl)
theorem dL_law_841 : decode cL_law 841 = .ok (.goto 1282, 3) := dk_167 5 2 (dk_at dksL_law_29 5 rfl rfl)
theorem dL_law_844 : decode cL_law 844 = .ok (.aload_n 1, 1) := dk_43 (dk_at dksL_law_29 8 rfl rfl)
theorem dL_law_845 : decode cL_law 845 = .ok (.aload_n 0, 1) := dk_42 (dk_at dksL_law_29 9 rfl rfl)
theorem dL_law_846 : decode cL_law 846 = .ok (.iload 5, 2) := dk_21 5 (dk_at dksL_law_29 10 rfl rfl)
theorem dL_law_848 : decode cL_law 848 = .ok (.iconst 1, 1) := dk_4 (dk_at dksL_law_29 12 rfl rfl)
theorem dL_law_849 : decode cL_law 849 = .ok (.iadd, 1) := dk_96 (dk_at dksL_law_29 13 rfl rfl)
theorem dL_law_850 : decode cL_law 850 = .ok (.iaload, 1) := dk_46 (dk_at dksL_law_29 14 rfl rfl)
theorem dL_law_851 : decode cL_law 851 = .ok (.aload_n 0, 1) := dk_42 (dk_at dksL_law_29 15 rfl rfl)
theorem dL_law_852 : decode cL_law 852 = .ok (.iload 5, 2) := dk_21 5 (dk_at dksL_law_29 16 rfl rfl)
theorem dL_law_854 : decode cL_law 854 = .ok (.iconst 2, 1) := dk_5 (dk_at dksL_law_29 18 rfl rfl)
theorem dL_law_855 : decode cL_law 855 = .ok (.iadd, 1) := dk_96 (dk_at dksL_law_29 19 rfl rfl)
theorem dL_law_856 : decode cL_law 856 = .ok (.iaload, 1) := dk_46 (dk_at dksL_law_29 20 rfl rfl)
theorem dL_law_857 : decode cL_law 857 = .ok (.aload_n 3, 1) := dk_45 (dk_at dksL_law_29 21 rfl rfl)
theorem dL_law_858 : decode cL_law 858 = .ok (.invokestatic 139, 3) := dk_184 0 139 (dk_at dksL_law_30 0 rfl rfl)
theorem dL_law_861 : decode cL_law 861 = .ok (.istore 6, 2) := dk_54 6 (dk_at dksL_law_30 3 rfl rfl)
theorem dL_law_863 : decode cL_law 863 = .ok (.aload_n 2, 1) := dk_44 (dk_at dksL_law_30 5 rfl rfl)
theorem dL_law_864 : decode cL_law 864 = .ok (.aload_n 0, 1) := dk_42 (dk_at dksL_law_30 6 rfl rfl)
theorem dL_law_865 : decode cL_law 865 = .ok (.iload 5, 2) := dk_21 5 (dk_at dksL_law_30 7 rfl rfl)
theorem dL_law_867 : decode cL_law 867 = .ok (.iconst 1, 1) := dk_4 (dk_at dksL_law_30 9 rfl rfl)
theorem dL_law_868 : decode cL_law 868 = .ok (.iadd, 1) := dk_96 (dk_at dksL_law_30 10 rfl rfl)
theorem dL_law_869 : decode cL_law 869 = .ok (.iaload, 1) := dk_46 (dk_at dksL_law_30 11 rfl rfl)
theorem dL_law_870 : decode cL_law 870 = .ok (.aload_n 0, 1) := dk_42 (dk_at dksL_law_30 12 rfl rfl)
theorem dL_law_871 : decode cL_law 871 = .ok (.iload 5, 2) := dk_21 5 (dk_at dksL_law_30 13 rfl rfl)
theorem dL_law_873 : decode cL_law 873 = .ok (.iconst 2, 1) := dk_5 (dk_at dksL_law_30 15 rfl rfl)
theorem dL_law_874 : decode cL_law 874 = .ok (.iadd, 1) := dk_96 (dk_at dksL_law_30 16 rfl rfl)
theorem dL_law_875 : decode cL_law 875 = .ok (.iaload, 1) := dk_46 (dk_at dksL_law_30 17 rfl rfl)
theorem dL_law_876 : decode cL_law 876 = .ok (.invokevirtual 141, 3) := dk_182 0 141 (dk_at dksL_law_30 18 rfl rfl)
theorem dL_law_879 : decode cL_law 879 = .ok (.istore 7, 2) := dk_54 7 (dk_at dksL_law_30 21 rfl rfl)
theorem dL_law_881 : decode cL_law 881 = .ok (.aload_n 2, 1) := dk_44 (dk_at dksL_law_30 23 rfl rfl)
theorem dL_law_882 : decode cL_law 882 = .ok (.invokevirtual 110, 3) := dk_182 0 110 (dk_at dksL_law_31 0 rfl rfl)
theorem dL_law_885 : decode cL_law 885 = .ok (.iload 6, 2) := dk_21 6 (dk_at dksL_law_31 3 rfl rfl)
theorem dL_law_887 : decode cL_law 887 = .ok (.if_icmp .eq 5, 3) := dk_159 0 5 (dk_at dksL_law_31 5 rfl rfl)
theorem dL_law_890 : decode cL_law 890 = .ok (.iconst 0, 1) := dk_3 (dk_at dksL_law_31 8 rfl rfl)
theorem dL_law_891 : decode cL_law 891 = .ok (.ireturn, 1) := dk_172 (dk_at dksL_law_31 9 rfl rfl)
theorem dL_law_892 : decode cL_law 892 = .ok (.iload 6, 2) := dk_21 6 (dk_at dksL_law_31 10 rfl rfl)
theorem dL_law_894 : decode cL_law 894 = .ok (.ifCond .ne 15, 3) := dk_154 0 15 (dk_at dksL_law_31 12 rfl rfl)
theorem dL_law_897 : decode cL_law 897 = .ok (.aload_n 3, 1) := dk_45 (dk_at dksL_law_31 15 rfl rfl)
theorem dL_law_898 : decode cL_law 898 = .ok (.iconst 0, 1) := dk_3 (dk_at dksL_law_31 16 rfl rfl)
theorem dL_law_899 : decode cL_law 899 = .ok (.laload, 1) := dk_47 (dk_at dksL_law_31 17 rfl rfl)
theorem dL_law_900 : decode cL_law 900 = .ok (.iload 7, 2) := dk_21 7 (dk_at dksL_law_31 18 rfl rfl)
theorem dL_law_902 : decode cL_law 902 = .ok (.i2l, 1) := dk_133 (dk_at dksL_law_31 20 rfl rfl)
theorem dL_law_903 : decode cL_law 903 = .ok (.lcmp, 1) := dk_148 (dk_at dksL_law_31 21 rfl rfl)
theorem dL_law_904 : decode cL_law 904 = .ok (.ifCond .eq 5, 3) := dk_153 0 5 (dk_at dksL_law_32 0 rfl rfl)
theorem dL_law_907 : decode cL_law 907 = .ok (.iconst 0, 1) := dk_3 (dk_at dksL_law_32 3 rfl rfl)
theorem dL_law_908 : decode cL_law 908 = .ok (.ireturn, 1) := dk_172 (dk_at dksL_law_32 4 rfl rfl)
theorem dL_law_909 : decode cL_law 909 = .ok (.goto 1214, 3) := dk_167 4 190 (dk_at dksL_law_32 5 rfl rfl)
theorem dL_law_912 : decode cL_law 912 = .ok (.aload_n 1, 1) := dk_43 (dk_at dksL_law_32 8 rfl rfl)
theorem dL_law_913 : decode cL_law 913 = .ok (.aload_n 0, 1) := dk_42 (dk_at dksL_law_32 9 rfl rfl)
theorem dL_law_914 : decode cL_law 914 = .ok (.iload 5, 2) := dk_21 5 (dk_at dksL_law_32 10 rfl rfl)
theorem dL_law_916 : decode cL_law 916 = .ok (.iconst 1, 1) := dk_4 (dk_at dksL_law_32 12 rfl rfl)
theorem dL_law_917 : decode cL_law 917 = .ok (.iadd, 1) := dk_96 (dk_at dksL_law_32 13 rfl rfl)
theorem dL_law_918 : decode cL_law 918 = .ok (.iaload, 1) := dk_46 (dk_at dksL_law_32 14 rfl rfl)
theorem dL_law_919 : decode cL_law 919 = .ok (.aload_n 0, 1) := dk_42 (dk_at dksL_law_32 15 rfl rfl)
theorem dL_law_920 : decode cL_law 920 = .ok (.iload 5, 2) := dk_21 5 (dk_at dksL_law_32 16 rfl rfl)
theorem dL_law_922 : decode cL_law 922 = .ok (.iconst 2, 1) := dk_5 (dk_at dksL_law_32 18 rfl rfl)
theorem dL_law_923 : decode cL_law 923 = .ok (.iadd, 1) := dk_96 (dk_at dksL_law_32 19 rfl rfl)
theorem dL_law_924 : decode cL_law 924 = .ok (.iaload, 1) := dk_46 (dk_at dksL_law_32 20 rfl rfl)
theorem dL_law_925 : decode cL_law 925 = .ok (.aload_n 3, 1) := dk_45 (dk_at dksL_law_32 21 rfl rfl)
theorem dL_law_926 : decode cL_law 926 = .ok (.invokestatic 142, 3) := dk_184 0 142 (dk_at dksL_law_33 0 rfl rfl)
theorem dL_law_929 : decode cL_law 929 = .ok (.istore 6, 2) := dk_54 6 (dk_at dksL_law_33 3 rfl rfl)
theorem dL_law_931 : decode cL_law 931 = .ok (.aload_n 2, 1) := dk_44 (dk_at dksL_law_33 5 rfl rfl)
theorem dL_law_932 : decode cL_law 932 = .ok (.aload_n 0, 1) := dk_42 (dk_at dksL_law_33 6 rfl rfl)
theorem dL_law_933 : decode cL_law 933 = .ok (.iload 5, 2) := dk_21 5 (dk_at dksL_law_33 7 rfl rfl)
theorem dL_law_935 : decode cL_law 935 = .ok (.iconst 1, 1) := dk_4 (dk_at dksL_law_33 9 rfl rfl)
theorem dL_law_936 : decode cL_law 936 = .ok (.iadd, 1) := dk_96 (dk_at dksL_law_33 10 rfl rfl)
theorem dL_law_937 : decode cL_law 937 = .ok (.iaload, 1) := dk_46 (dk_at dksL_law_33 11 rfl rfl)
theorem dL_law_938 : decode cL_law 938 = .ok (.aload_n 0, 1) := dk_42 (dk_at dksL_law_33 12 rfl rfl)
theorem dL_law_939 : decode cL_law 939 = .ok (.iload 5, 2) := dk_21 5 (dk_at dksL_law_33 13 rfl rfl)
theorem dL_law_941 : decode cL_law 941 = .ok (.iconst 2, 1) := dk_5 (dk_at dksL_law_33 15 rfl rfl)
theorem dL_law_942 : decode cL_law 942 = .ok (.iadd, 1) := dk_96 (dk_at dksL_law_33 16 rfl rfl)
theorem dL_law_943 : decode cL_law 943 = .ok (.iaload, 1) := dk_46 (dk_at dksL_law_33 17 rfl rfl)
theorem dL_law_944 : decode cL_law 944 = .ok (.invokevirtual 144, 3) := dk_182 0 144 (dk_at dksL_law_33 18 rfl rfl)
theorem dL_law_947 : decode cL_law 947 = .ok (.istore 7, 2) := dk_54 7 (dk_at dksL_law_33 21 rfl rfl)
theorem dL_law_949 : decode cL_law 949 = .ok (.aload_n 2, 1) := dk_44 (dk_at dksL_law_33 23 rfl rfl)
theorem dL_law_950 : decode cL_law 950 = .ok (.invokevirtual 110, 3) := dk_182 0 110 (dk_at dksL_law_34 0 rfl rfl)
theorem dL_law_953 : decode cL_law 953 = .ok (.iload 6, 2) := dk_21 6 (dk_at dksL_law_34 3 rfl rfl)
theorem dL_law_955 : decode cL_law 955 = .ok (.if_icmp .eq 5, 3) := dk_159 0 5 (dk_at dksL_law_34 5 rfl rfl)
theorem dL_law_958 : decode cL_law 958 = .ok (.iconst 0, 1) := dk_3 (dk_at dksL_law_34 8 rfl rfl)
theorem dL_law_959 : decode cL_law 959 = .ok (.ireturn, 1) := dk_172 (dk_at dksL_law_34 9 rfl rfl)
theorem dL_law_960 : decode cL_law 960 = .ok (.iload 6, 2) := dk_21 6 (dk_at dksL_law_34 10 rfl rfl)
theorem dL_law_962 : decode cL_law 962 = .ok (.ifCond .ne 15, 3) := dk_154 0 15 (dk_at dksL_law_34 12 rfl rfl)
theorem dL_law_965 : decode cL_law 965 = .ok (.aload_n 3, 1) := dk_45 (dk_at dksL_law_34 15 rfl rfl)
theorem dL_law_966 : decode cL_law 966 = .ok (.iconst 0, 1) := dk_3 (dk_at dksL_law_34 16 rfl rfl)
theorem dL_law_967 : decode cL_law 967 = .ok (.laload, 1) := dk_47 (dk_at dksL_law_34 17 rfl rfl)
theorem dL_law_968 : decode cL_law 968 = .ok (.iload 7, 2) := dk_21 7 (dk_at dksL_law_34 18 rfl rfl)
theorem dL_law_970 : decode cL_law 970 = .ok (.i2l, 1) := dk_133 (dk_at dksL_law_34 20 rfl rfl)
theorem dL_law_971 : decode cL_law 971 = .ok (.lcmp, 1) := dk_148 (dk_at dksL_law_34 21 rfl rfl)
theorem dL_law_972 : decode cL_law 972 = .ok (.ifCond .eq 5, 3) := dk_153 0 5 (dk_at dksL_law_35 0 rfl rfl)
theorem dL_law_975 : decode cL_law 975 = .ok (.iconst 0, 1) := dk_3 (dk_at dksL_law_35 3 rfl rfl)
theorem dL_law_976 : decode cL_law 976 = .ok (.ireturn, 1) := dk_172 (dk_at dksL_law_35 4 rfl rfl)
theorem dL_law_977 : decode cL_law 977 = .ok (.goto 1146, 3) := dk_167 4 122 (dk_at dksL_law_35 5 rfl rfl)
theorem dL_law_980 : decode cL_law 980 = .ok (.aload_n 1, 1) := dk_43 (dk_at dksL_law_35 8 rfl rfl)
theorem dL_law_981 : decode cL_law 981 = .ok (.aload_n 3, 1) := dk_45 (dk_at dksL_law_35 9 rfl rfl)
theorem dL_law_982 : decode cL_law 982 = .ok (.invokestatic 145, 3) := dk_184 0 145 (dk_at dksL_law_35 10 rfl rfl)
theorem dL_law_985 : decode cL_law 985 = .ok (.istore 6, 2) := dk_54 6 (dk_at dksL_law_35 13 rfl rfl)
theorem dL_law_987 : decode cL_law 987 = .ok (.aload_n 2, 1) := dk_44 (dk_at dksL_law_35 15 rfl rfl)
theorem dL_law_988 : decode cL_law 988 = .ok (.invokevirtual 148, 3) := dk_182 0 148 (dk_at dksL_law_35 16 rfl rfl)
theorem dL_law_991 : decode cL_law 991 = .ok (.istore 7, 2) := dk_54 7 (dk_at dksL_law_35 19 rfl rfl)
theorem dL_law_993 : decode cL_law 993 = .ok (.aload_n 2, 1) := dk_44 (dk_at dksL_law_35 21 rfl rfl)
theorem dL_law_994 : decode cL_law 994 = .ok (.invokevirtual 110, 3) := dk_182 0 110 (dk_at dksL_law_36 0 rfl rfl)
theorem dL_law_997 : decode cL_law 997 = .ok (.iload 6, 2) := dk_21 6 (dk_at dksL_law_36 3 rfl rfl)
theorem dL_law_999 : decode cL_law 999 = .ok (.if_icmp .eq 5, 3) := dk_159 0 5 (dk_at dksL_law_36 5 rfl rfl)
theorem dL_law_1002 : decode cL_law 1002 = .ok (.iconst 0, 1) := dk_3 (dk_at dksL_law_36 8 rfl rfl)
theorem dL_law_1003 : decode cL_law 1003 = .ok (.ireturn, 1) := dk_172 (dk_at dksL_law_36 9 rfl rfl)
theorem dL_law_1004 : decode cL_law 1004 = .ok (.iload 6, 2) := dk_21 6 (dk_at dksL_law_36 10 rfl rfl)
theorem dL_law_1006 : decode cL_law 1006 = .ok (.ifCond .ne 15, 3) := dk_154 0 15 (dk_at dksL_law_36 12 rfl rfl)
theorem dL_law_1009 : decode cL_law 1009 = .ok (.aload_n 3, 1) := dk_45 (dk_at dksL_law_36 15 rfl rfl)
theorem dL_law_1010 : decode cL_law 1010 = .ok (.iconst 0, 1) := dk_3 (dk_at dksL_law_36 16 rfl rfl)
theorem dL_law_1011 : decode cL_law 1011 = .ok (.laload, 1) := dk_47 (dk_at dksL_law_36 17 rfl rfl)
theorem dL_law_1012 : decode cL_law 1012 = .ok (.iload 7, 2) := dk_21 7 (dk_at dksL_law_36 18 rfl rfl)
theorem dL_law_1014 : decode cL_law 1014 = .ok (.i2l, 1) := dk_133 (dk_at dksL_law_36 20 rfl rfl)
theorem dL_law_1015 : decode cL_law 1015 = .ok (.lcmp, 1) := dk_148 (dk_at dksL_law_36 21 rfl rfl)
theorem dL_law_1016 : decode cL_law 1016 = .ok (.ifCond .eq 5, 3) := dk_153 0 5 (dk_at dksL_law_37 0 rfl rfl)
theorem dL_law_1019 : decode cL_law 1019 = .ok (.iconst 0, 1) := dk_3 (dk_at dksL_law_37 3 rfl rfl)
theorem dL_law_1020 : decode cL_law 1020 = .ok (.ireturn, 1) := dk_172 (dk_at dksL_law_37 4 rfl rfl)
theorem dL_law_1021 : decode cL_law 1021 = .ok (.goto 1102, 3) := dk_167 4 78 (dk_at dksL_law_37 5 rfl rfl)
theorem dL_law_1024 : decode cL_law 1024 = .ok (.aload_n 1, 1) := dk_43 (dk_at dksL_law_37 8 rfl rfl)
theorem dL_law_1025 : decode cL_law 1025 = .ok (.invokevirtual 149, 3) := dk_182 0 149 (dk_at dksL_law_37 9 rfl rfl)
theorem dL_law_1028 : decode cL_law 1028 = .ok (.aload_n 2, 1) := dk_44 (dk_at dksL_law_37 12 rfl rfl)
theorem dL_law_1029 : decode cL_law 1029 = .ok (.invokevirtual 152, 3) := dk_182 0 152 (dk_at dksL_law_37 13 rfl rfl)
theorem dL_law_1032 : decode cL_law 1032 = .ok (.if_icmp .eq 1091, 3) := dk_159 4 67 (dk_at dksL_law_37 16 rfl rfl)
theorem dL_law_1035 : decode cL_law 1035 = .ok (.iconst 0, 1) := dk_3 (dk_at dksL_law_37 19 rfl rfl)
theorem dL_law_1036 : decode cL_law 1036 = .ok (.ireturn, 1) := dk_172 (dk_at dksL_law_37 20 rfl rfl)
theorem dL_law_1037 : decode cL_law 1037 = .ok (.aload_n 1, 1) := dk_43 (dk_at dksL_law_37 21 rfl rfl)
theorem dL_law_1038 : decode cL_law 1038 = .ok (.invokevirtual 153, 3) := dk_182 0 153 (dk_at dksL_law_38 0 rfl rfl)
theorem dL_law_1041 : decode cL_law 1041 = .ok (.aload_n 2, 1) := dk_44 (dk_at dksL_law_38 3 rfl rfl)
theorem dL_law_1042 : decode cL_law 1042 = .ok (.invokevirtual 156, 3) := dk_182 0 156 (dk_at dksL_law_38 4 rfl rfl)
theorem dL_law_1045 : decode cL_law 1045 = .ok (.if_icmp .eq 1078, 3) := dk_159 4 54 (dk_at dksL_law_38 7 rfl rfl)
theorem dL_law_1048 : decode cL_law 1048 = .ok (.iconst 0, 1) := dk_3 (dk_at dksL_law_38 10 rfl rfl)
theorem dL_law_1049 : decode cL_law 1049 = .ok (.ireturn, 1) := dk_172 (dk_at dksL_law_38 11 rfl rfl)
theorem dL_law_1050 : decode cL_law 1050 = .ok (.aload_n 1, 1) := dk_43 (dk_at dksL_law_38 12 rfl rfl)
theorem dL_law_1051 : decode cL_law 1051 = .ok (.invokevirtual 157, 3) := dk_182 0 157 (dk_at dksL_law_38 13 rfl rfl)
theorem dL_law_1054 : decode cL_law 1054 = .ok (.aload_n 2, 1) := dk_44 (dk_at dksL_law_38 16 rfl rfl)
theorem dL_law_1055 : decode cL_law 1055 = .ok (.invokevirtual 160, 3) := dk_182 0 160 (dk_at dksL_law_38 17 rfl rfl)
theorem dL_law_1058 : decode cL_law 1058 = .ok (.if_icmp .eq 1065, 3) := dk_159 4 41 (dk_at dksL_law_38 20 rfl rfl)
theorem dL_law_1061 : decode cL_law 1061 = .ok (.iconst 0, 1) := dk_3 (dk_at dksL_law_38 23 rfl rfl)
theorem dL_law_1062 : decode cL_law 1062 = .ok (.ireturn, 1) := dk_172 (dk_at dksL_law_39 0 rfl rfl)
theorem dL_law_1063 : decode cL_law 1063 = .ok (.aload_n 1, 1) := dk_43 (dk_at dksL_law_39 1 rfl rfl)
theorem dL_law_1064 : decode cL_law 1064 = .ok (.invokevirtual 161, 3) := dk_182 0 161 (dk_at dksL_law_39 2 rfl rfl)
theorem dL_law_1067 : decode cL_law 1067 = .ok (.aload_n 2, 1) := dk_44 (dk_at dksL_law_39 5 rfl rfl)
theorem dL_law_1068 : decode cL_law 1068 = .ok (.invokevirtual 164, 3) := dk_182 0 164 (dk_at dksL_law_39 6 rfl rfl)
theorem dL_law_1071 : decode cL_law 1071 = .ok (.if_icmp .eq 1052, 3) := dk_159 4 28 (dk_at dksL_law_39 9 rfl rfl)
theorem dL_law_1074 : decode cL_law 1074 = .ok (.iconst 0, 1) := dk_3 (dk_at dksL_law_39 12 rfl rfl)
theorem dL_law_1075 : decode cL_law 1075 = .ok (.ireturn, 1) := dk_172 (dk_at dksL_law_39 13 rfl rfl)
theorem dL_law_1076 : decode cL_law 1076 = .ok (.aload_n 1, 1) := dk_43 (dk_at dksL_law_39 14 rfl rfl)
theorem dL_law_1077 : decode cL_law 1077 = .ok (.invokevirtual 165, 3) := dk_182 0 165 (dk_at dksL_law_39 15 rfl rfl)
theorem dL_law_1080 : decode cL_law 1080 = .ok (.aload_n 2, 1) := dk_44 (dk_at dksL_law_39 18 rfl rfl)
theorem dL_law_1081 : decode cL_law 1081 = .ok (.invokevirtual 168, 3) := dk_182 0 168 (dk_at dksL_law_39 19 rfl rfl)
theorem dL_law_1084 : decode cL_law 1084 = .ok (.if_icmp .eq 1039, 3) := dk_159 4 15 (dk_at dksL_law_40 0 rfl rfl)
theorem dL_law_1087 : decode cL_law 1087 = .ok (.iconst 0, 1) := dk_3 (dk_at dksL_law_40 3 rfl rfl)
theorem dL_law_1088 : decode cL_law 1088 = .ok (.ireturn, 1) := dk_172 (dk_at dksL_law_40 4 rfl rfl)
theorem dL_law_1089 : decode cL_law 1089 = .ok (.aload_n 1, 1) := dk_43 (dk_at dksL_law_40 5 rfl rfl)
theorem dL_law_1090 : decode cL_law 1090 = .ok (.invokevirtual 169, 3) := dk_182 0 169 (dk_at dksL_law_40 6 rfl rfl)
theorem dL_law_1093 : decode cL_law 1093 = .ok (.aload_n 2, 1) := dk_44 (dk_at dksL_law_40 9 rfl rfl)
theorem dL_law_1094 : decode cL_law 1094 = .ok (.invokevirtual 172, 3) := dk_182 0 172 (dk_at dksL_law_40 10 rfl rfl)
theorem dL_law_1097 : decode cL_law 1097 = .ok (.if_icmp .eq 1026, 3) := dk_159 4 2 (dk_at dksL_law_40 13 rfl rfl)
theorem dL_law_1100 : decode cL_law 1100 = .ok (.iconst 0, 1) := dk_3 (dk_at dksL_law_40 16 rfl rfl)
theorem dL_law_1101 : decode cL_law 1101 = .ok (.ireturn, 1) := dk_172 (dk_at dksL_law_40 17 rfl rfl)
theorem dL_law_1102 : decode cL_law 1102 = .ok (.aload_n 1, 1) := dk_43 (dk_at dksL_law_40 18 rfl rfl)
theorem dL_law_1103 : decode cL_law 1103 = .ok (.invokevirtual 173, 3) := dk_182 0 173 (dk_at dksL_law_40 19 rfl rfl)
theorem dL_law_1106 : decode cL_law 1106 = .ok (.aload_n 2, 1) := dk_44 (dk_at dksL_law_40 22 rfl rfl)
theorem dL_law_1107 : decode cL_law 1107 = .ok (.invokevirtual 176, 3) := dk_182 0 176 (dk_at dksL_law_41 0 rfl rfl)
theorem dL_law_1110 : decode cL_law 1110 = .ok (.if_icmp .eq 1013, 3) := dk_159 3 245 (dk_at dksL_law_41 3 rfl rfl)
theorem dL_law_1113 : decode cL_law 1113 = .ok (.iconst 0, 1) := dk_3 (dk_at dksL_law_41 6 rfl rfl)
theorem dL_law_1114 : decode cL_law 1114 = .ok (.ireturn, 1) := dk_172 (dk_at dksL_law_41 7 rfl rfl)
theorem dL_law_1115 : decode cL_law 1115 = .ok (.aload_n 1, 1) := dk_43 (dk_at dksL_law_41 8 rfl rfl)
theorem dL_law_1116 : decode cL_law 1116 = .ok (.invokevirtual 177, 3) := dk_182 0 177 (dk_at dksL_law_41 9 rfl rfl)
theorem dL_law_1119 : decode cL_law 1119 = .ok (.aload_n 2, 1) := dk_44 (dk_at dksL_law_41 12 rfl rfl)
theorem dL_law_1120 : decode cL_law 1120 = .ok (.invokevirtual 180, 3) := dk_182 0 180 (dk_at dksL_law_41 13 rfl rfl)
theorem dL_law_1123 : decode cL_law 1123 = .ok (.if_icmp .eq 1000, 3) := dk_159 3 232 (dk_at dksL_law_41 16 rfl rfl)
theorem dL_law_1126 : decode cL_law 1126 = .ok (.iconst 0, 1) := dk_3 (dk_at dksL_law_41 19 rfl rfl)
theorem dL_law_1127 : decode cL_law 1127 = .ok (.ireturn, 1) := dk_172 (dk_at dksL_law_41 20 rfl rfl)
theorem dL_law_1128 : decode cL_law 1128 = .ok (.aload_n 1, 1) := dk_43 (dk_at dksL_law_41 21 rfl rfl)
theorem dL_law_1129 : decode cL_law 1129 = .ok (.invokevirtual 181, 3) := dk_182 0 181 (dk_at dksL_law_42 0 rfl rfl)
theorem dL_law_1132 : decode cL_law 1132 = .ok (.aload_n 2, 1) := dk_44 (dk_at dksL_law_42 3 rfl rfl)
theorem dL_law_1133 : decode cL_law 1133 = .ok (.invokevirtual 184, 3) := dk_182 0 184 (dk_at dksL_law_42 4 rfl rfl)
theorem dL_law_1136 : decode cL_law 1136 = .ok (.if_icmp .eq 987, 3) := dk_159 3 219 (dk_at dksL_law_42 7 rfl rfl)
theorem dL_law_1139 : decode cL_law 1139 = .ok (.iconst 0, 1) := dk_3 (dk_at dksL_law_42 10 rfl rfl)
theorem dL_law_1140 : decode cL_law 1140 = .ok (.ireturn, 1) := dk_172 (dk_at dksL_law_42 11 rfl rfl)
theorem dL_law_1141 : decode cL_law 1141 = .ok (.aload_n 1, 1) := dk_43 (dk_at dksL_law_42 12 rfl rfl)
theorem dL_law_1142 : decode cL_law 1142 = .ok (.aload_n 0, 1) := dk_42 (dk_at dksL_law_42 13 rfl rfl)
theorem dL_law_1143 : decode cL_law 1143 = .ok (.iload 5, 2) := dk_21 5 (dk_at dksL_law_42 14 rfl rfl)
theorem dL_law_1145 : decode cL_law 1145 = .ok (.iconst 1, 1) := dk_4 (dk_at dksL_law_42 16 rfl rfl)
theorem dL_law_1146 : decode cL_law 1146 = .ok (.iadd, 1) := dk_96 (dk_at dksL_law_42 17 rfl rfl)
theorem dL_law_1147 : decode cL_law 1147 = .ok (.iaload, 1) := dk_46 (dk_at dksL_law_42 18 rfl rfl)
theorem dL_law_1148 : decode cL_law 1148 = .ok (.aload_n 3, 1) := dk_45 (dk_at dksL_law_42 19 rfl rfl)
theorem dL_law_1149 : decode cL_law 1149 = .ok (.invokestatic 185, 3) := dk_184 0 185 (dk_at dksL_law_42 20 rfl rfl)
theorem dL_law_1152 : decode cL_law 1152 = .ok (.istore 6, 2) := dk_54 6 (dk_at dksL_law_43 0 rfl rfl)
theorem dL_law_1154 : decode cL_law 1154 = .ok (.aload_n 2, 1) := dk_44 (dk_at dksL_law_43 2 rfl rfl)
theorem dL_law_1155 : decode cL_law 1155 = .ok (.aload_n 0, 1) := dk_42 (dk_at dksL_law_43 3 rfl rfl)
theorem dL_law_1156 : decode cL_law 1156 = .ok (.iload 5, 2) := dk_21 5 (dk_at dksL_law_43 4 rfl rfl)
theorem dL_law_1158 : decode cL_law 1158 = .ok (.iconst 1, 1) := dk_4 (dk_at dksL_law_43 6 rfl rfl)
theorem dL_law_1159 : decode cL_law 1159 = .ok (.iadd, 1) := dk_96 (dk_at dksL_law_43 7 rfl rfl)
theorem dL_law_1160 : decode cL_law 1160 = .ok (.iaload, 1) := dk_46 (dk_at dksL_law_43 8 rfl rfl)
theorem dL_law_1161 : decode cL_law 1161 = .ok (.invokevirtual 188, 3) := dk_182 0 188 (dk_at dksL_law_43 9 rfl rfl)
theorem dL_law_1164 : decode cL_law 1164 = .ok (.istore 7, 2) := dk_54 7 (dk_at dksL_law_43 12 rfl rfl)
theorem dL_law_1166 : decode cL_law 1166 = .ok (.aload_n 2, 1) := dk_44 (dk_at dksL_law_43 14 rfl rfl)
theorem dL_law_1167 : decode cL_law 1167 = .ok (.invokevirtual 110, 3) := dk_182 0 110 (dk_at dksL_law_43 15 rfl rfl)
theorem dL_law_1170 : decode cL_law 1170 = .ok (.iload 6, 2) := dk_21 6 (dk_at dksL_law_43 18 rfl rfl)
theorem dL_law_1172 : decode cL_law 1172 = .ok (.if_icmp .eq 5, 3) := dk_159 0 5 (dk_at dksL_law_43 20 rfl rfl)
theorem dL_law_1175 : decode cL_law 1175 = .ok (.iconst 0, 1) := dk_3 (dk_at dksL_law_43 23 rfl rfl)
theorem dL_law_1176 : decode cL_law 1176 = .ok (.ireturn, 1) := dk_172 (dk_at dksL_law_44 0 rfl rfl)
theorem dL_law_1177 : decode cL_law 1177 = .ok (.iload 6, 2) := dk_21 6 (dk_at dksL_law_44 1 rfl rfl)
theorem dL_law_1179 : decode cL_law 1179 = .ok (.ifCond .ne 15, 3) := dk_154 0 15 (dk_at dksL_law_44 3 rfl rfl)
theorem dL_law_1182 : decode cL_law 1182 = .ok (.aload_n 3, 1) := dk_45 (dk_at dksL_law_44 6 rfl rfl)
theorem dL_law_1183 : decode cL_law 1183 = .ok (.iconst 0, 1) := dk_3 (dk_at dksL_law_44 7 rfl rfl)
theorem dL_law_1184 : decode cL_law 1184 = .ok (.laload, 1) := dk_47 (dk_at dksL_law_44 8 rfl rfl)
theorem dL_law_1185 : decode cL_law 1185 = .ok (.iload 7, 2) := dk_21 7 (dk_at dksL_law_44 9 rfl rfl)
theorem dL_law_1187 : decode cL_law 1187 = .ok (.i2l, 1) := dk_133 (dk_at dksL_law_44 11 rfl rfl)
theorem dL_law_1188 : decode cL_law 1188 = .ok (.lcmp, 1) := dk_148 (dk_at dksL_law_44 12 rfl rfl)
theorem dL_law_1189 : decode cL_law 1189 = .ok (.ifCond .eq 5, 3) := dk_153 0 5 (dk_at dksL_law_44 13 rfl rfl)
theorem dL_law_1192 : decode cL_law 1192 = .ok (.iconst 0, 1) := dk_3 (dk_at dksL_law_44 16 rfl rfl)
theorem dL_law_1193 : decode cL_law 1193 = .ok (.ireturn, 1) := dk_172 (dk_at dksL_law_44 17 rfl rfl)
theorem dL_law_1194 : decode cL_law 1194 = .ok (.goto 929, 3) := dk_167 3 161 (dk_at dksL_law_44 18 rfl rfl)
theorem dL_law_1197 : decode cL_law 1197 = .ok (.aload_n 1, 1) := dk_43 (dk_at dksL_law_44 21 rfl rfl)
theorem dL_law_1198 : decode cL_law 1198 = .ok (.invokevirtual 189, 3) := dk_182 0 189 (dk_at dksL_law_45 0 rfl rfl)
theorem dL_law_1201 : decode cL_law 1201 = .ok (.aload_n 2, 1) := dk_44 (dk_at dksL_law_45 3 rfl rfl)
theorem dL_law_1202 : decode cL_law 1202 = .ok (.invokevirtual 192, 3) := dk_182 0 192 (dk_at dksL_law_45 4 rfl rfl)
theorem dL_law_1205 : decode cL_law 1205 = .ok (.if_icmp .eq 918, 3) := dk_159 3 150 (dk_at dksL_law_45 7 rfl rfl)
theorem dL_law_1208 : decode cL_law 1208 = .ok (.iconst 0, 1) := dk_3 (dk_at dksL_law_45 10 rfl rfl)
theorem dL_law_1209 : decode cL_law 1209 = .ok (.ireturn, 1) := dk_172 (dk_at dksL_law_45 11 rfl rfl)
theorem dL_law_1210 : decode cL_law 1210 = .ok (.aload_n 1, 1) := dk_43 (dk_at dksL_law_45 12 rfl rfl)
theorem dL_law_1211 : decode cL_law 1211 = .ok (.aload_n 0, 1) := dk_42 (dk_at dksL_law_45 13 rfl rfl)
theorem dL_law_1212 : decode cL_law 1212 = .ok (.iload 5, 2) := dk_21 5 (dk_at dksL_law_45 14 rfl rfl)
theorem dL_law_1214 : decode cL_law 1214 = .ok (.iconst 1, 1) := dk_4 (dk_at dksL_law_45 16 rfl rfl)
theorem dL_law_1215 : decode cL_law 1215 = .ok (.iadd, 1) := dk_96 (dk_at dksL_law_45 17 rfl rfl)
theorem dL_law_1216 : decode cL_law 1216 = .ok (.iaload, 1) := dk_46 (dk_at dksL_law_45 18 rfl rfl)
theorem dL_law_1217 : decode cL_law 1217 = .ok (.aload_n 3, 1) := dk_45 (dk_at dksL_law_45 19 rfl rfl)
theorem dL_law_1218 : decode cL_law 1218 = .ok (.invokestatic 193, 3) := dk_184 0 193 (dk_at dksL_law_45 20 rfl rfl)
theorem dL_law_1221 : decode cL_law 1221 = .ok (.istore 6, 2) := dk_54 6 (dk_at dksL_law_46 0 rfl rfl)
theorem dL_law_1223 : decode cL_law 1223 = .ok (.aload_n 2, 1) := dk_44 (dk_at dksL_law_46 2 rfl rfl)
theorem dL_law_1224 : decode cL_law 1224 = .ok (.aload_n 0, 1) := dk_42 (dk_at dksL_law_46 3 rfl rfl)
theorem dL_law_1225 : decode cL_law 1225 = .ok (.iload 5, 2) := dk_21 5 (dk_at dksL_law_46 4 rfl rfl)
theorem dL_law_1227 : decode cL_law 1227 = .ok (.iconst 1, 1) := dk_4 (dk_at dksL_law_46 6 rfl rfl)
theorem dL_law_1228 : decode cL_law 1228 = .ok (.iadd, 1) := dk_96 (dk_at dksL_law_46 7 rfl rfl)
theorem dL_law_1229 : decode cL_law 1229 = .ok (.iaload, 1) := dk_46 (dk_at dksL_law_46 8 rfl rfl)
theorem dL_law_1230 : decode cL_law 1230 = .ok (.invokevirtual 195, 3) := dk_182 0 195 (dk_at dksL_law_46 9 rfl rfl)
theorem dL_law_1233 : decode cL_law 1233 = .ok (.istore 7, 2) := dk_54 7 (dk_at dksL_law_46 12 rfl rfl)
theorem dL_law_1235 : decode cL_law 1235 = .ok (.aload_n 2, 1) := dk_44 (dk_at dksL_law_46 14 rfl rfl)
theorem dL_law_1236 : decode cL_law 1236 = .ok (.invokevirtual 110, 3) := dk_182 0 110 (dk_at dksL_law_46 15 rfl rfl)
theorem dL_law_1239 : decode cL_law 1239 = .ok (.iload 6, 2) := dk_21 6 (dk_at dksL_law_46 18 rfl rfl)
theorem dL_law_1241 : decode cL_law 1241 = .ok (.if_icmp .eq 5, 3) := dk_159 0 5 (dk_at dksL_law_46 20 rfl rfl)
theorem dL_law_1244 : decode cL_law 1244 = .ok (.iconst 0, 1) := dk_3 (dk_at dksL_law_46 23 rfl rfl)
theorem dL_law_1245 : decode cL_law 1245 = .ok (.ireturn, 1) := dk_172 (dk_at dksL_law_47 0 rfl rfl)
theorem dL_law_1246 : decode cL_law 1246 = .ok (.iload 6, 2) := dk_21 6 (dk_at dksL_law_47 1 rfl rfl)
theorem dL_law_1248 : decode cL_law 1248 = .ok (.ifCond .ne 15, 3) := dk_154 0 15 (dk_at dksL_law_47 3 rfl rfl)
theorem dL_law_1251 : decode cL_law 1251 = .ok (.aload_n 3, 1) := dk_45 (dk_at dksL_law_47 6 rfl rfl)
theorem dL_law_1252 : decode cL_law 1252 = .ok (.iconst 0, 1) := dk_3 (dk_at dksL_law_47 7 rfl rfl)
theorem dL_law_1253 : decode cL_law 1253 = .ok (.laload, 1) := dk_47 (dk_at dksL_law_47 8 rfl rfl)
theorem dL_law_1254 : decode cL_law 1254 = .ok (.iload 7, 2) := dk_21 7 (dk_at dksL_law_47 9 rfl rfl)
theorem dL_law_1256 : decode cL_law 1256 = .ok (.i2l, 1) := dk_133 (dk_at dksL_law_47 11 rfl rfl)
theorem dL_law_1257 : decode cL_law 1257 = .ok (.lcmp, 1) := dk_148 (dk_at dksL_law_47 12 rfl rfl)
theorem dL_law_1258 : decode cL_law 1258 = .ok (.ifCond .eq 5, 3) := dk_153 0 5 (dk_at dksL_law_47 13 rfl rfl)
theorem dL_law_1261 : decode cL_law 1261 = .ok (.iconst 0, 1) := dk_3 (dk_at dksL_law_47 16 rfl rfl)
theorem dL_law_1262 : decode cL_law 1262 = .ok (.ireturn, 1) := dk_172 (dk_at dksL_law_47 17 rfl rfl)
theorem dL_law_1263 : decode cL_law 1263 = .ok (.goto 860, 3) := dk_167 3 92 (dk_at dksL_law_47 18 rfl rfl)
theorem dL_law_1266 : decode cL_law 1266 = .ok (.aload_n 1, 1) := dk_43 (dk_at dksL_law_47 21 rfl rfl)
theorem dL_law_1267 : decode cL_law 1267 = .ok (.aload_n 0, 1) := dk_42 (dk_at dksL_law_47 22 rfl rfl)
theorem dL_law_1268 : decode cL_law 1268 = .ok (.iload 5, 2) := dk_21 5 (dk_at dksL_law_48 0 rfl rfl)
theorem dL_law_1270 : decode cL_law 1270 = .ok (.iconst 1, 1) := dk_4 (dk_at dksL_law_48 2 rfl rfl)
theorem dL_law_1271 : decode cL_law 1271 = .ok (.iadd, 1) := dk_96 (dk_at dksL_law_48 3 rfl rfl)
theorem dL_law_1272 : decode cL_law 1272 = .ok (.iaload, 1) := dk_46 (dk_at dksL_law_48 4 rfl rfl)
theorem dL_law_1273 : decode cL_law 1273 = .ok (.aload_n 3, 1) := dk_45 (dk_at dksL_law_48 5 rfl rfl)
theorem dL_law_1274 : decode cL_law 1274 = .ok (.invokestatic 196, 3) := dk_184 0 196 (dk_at dksL_law_48 6 rfl rfl)
theorem dL_law_1277 : decode cL_law 1277 = .ok (.istore 6, 2) := dk_54 6 (dk_at dksL_law_48 9 rfl rfl)
theorem dL_law_1279 : decode cL_law 1279 = .ok (.aload_n 2, 1) := dk_44 (dk_at dksL_law_48 11 rfl rfl)
theorem dL_law_1280 : decode cL_law 1280 = .ok (.aload_n 0, 1) := dk_42 (dk_at dksL_law_48 12 rfl rfl)
theorem dL_law_1281 : decode cL_law 1281 = .ok (.iload 5, 2) := dk_21 5 (dk_at dksL_law_48 13 rfl rfl)
theorem dL_law_1283 : decode cL_law 1283 = .ok (.iconst 1, 1) := dk_4 (dk_at dksL_law_48 15 rfl rfl)
theorem dL_law_1284 : decode cL_law 1284 = .ok (.iadd, 1) := dk_96 (dk_at dksL_law_48 16 rfl rfl)
theorem dL_law_1285 : decode cL_law 1285 = .ok (.iaload, 1) := dk_46 (dk_at dksL_law_48 17 rfl rfl)
theorem dL_law_1286 : decode cL_law 1286 = .ok (.invokevirtual 198, 3) := dk_182 0 198 (dk_at dksL_law_48 18 rfl rfl)
theorem dL_law_1289 : decode cL_law 1289 = .ok (.istore 7, 2) := dk_54 7 (dk_at dksL_law_48 21 rfl rfl)
theorem dL_law_1291 : decode cL_law 1291 = .ok (.aload_n 2, 1) := dk_44 (dk_at dksL_law_48 23 rfl rfl)
theorem dL_law_1292 : decode cL_law 1292 = .ok (.invokevirtual 110, 3) := dk_182 0 110 (dk_at dksL_law_49 0 rfl rfl)
theorem dL_law_1295 : decode cL_law 1295 = .ok (.iload 6, 2) := dk_21 6 (dk_at dksL_law_49 3 rfl rfl)
theorem dL_law_1297 : decode cL_law 1297 = .ok (.if_icmp .eq 5, 3) := dk_159 0 5 (dk_at dksL_law_49 5 rfl rfl)
theorem dL_law_1300 : decode cL_law 1300 = .ok (.iconst 0, 1) := dk_3 (dk_at dksL_law_49 8 rfl rfl)
theorem dL_law_1301 : decode cL_law 1301 = .ok (.ireturn, 1) := dk_172 (dk_at dksL_law_49 9 rfl rfl)
theorem dL_law_1302 : decode cL_law 1302 = .ok (.iload 6, 2) := dk_21 6 (dk_at dksL_law_49 10 rfl rfl)
theorem dL_law_1304 : decode cL_law 1304 = .ok (.ifCond .ne 15, 3) := dk_154 0 15 (dk_at dksL_law_49 12 rfl rfl)
theorem dL_law_1307 : decode cL_law 1307 = .ok (.aload_n 3, 1) := dk_45 (dk_at dksL_law_49 15 rfl rfl)
theorem dL_law_1308 : decode cL_law 1308 = .ok (.iconst 0, 1) := dk_3 (dk_at dksL_law_49 16 rfl rfl)
theorem dL_law_1309 : decode cL_law 1309 = .ok (.laload, 1) := dk_47 (dk_at dksL_law_49 17 rfl rfl)
theorem dL_law_1310 : decode cL_law 1310 = .ok (.iload 7, 2) := dk_21 7 (dk_at dksL_law_49 18 rfl rfl)
theorem dL_law_1312 : decode cL_law 1312 = .ok (.i2l, 1) := dk_133 (dk_at dksL_law_49 20 rfl rfl)
theorem dL_law_1313 : decode cL_law 1313 = .ok (.lcmp, 1) := dk_148 (dk_at dksL_law_49 21 rfl rfl)
theorem dL_law_1314 : decode cL_law 1314 = .ok (.ifCond .eq 5, 3) := dk_153 0 5 (dk_at dksL_law_50 0 rfl rfl)
theorem dL_law_1317 : decode cL_law 1317 = .ok (.iconst 0, 1) := dk_3 (dk_at dksL_law_50 3 rfl rfl)
theorem dL_law_1318 : decode cL_law 1318 = .ok (.ireturn, 1) := dk_172 (dk_at dksL_law_50 4 rfl rfl)
theorem dL_law_1319 : decode cL_law 1319 = .ok (.goto 804, 3) := dk_167 3 36 (dk_at dksL_law_50 5 rfl rfl)
theorem dL_law_1322 : decode cL_law 1322 = .ok (.aload_n 1, 1) := dk_43 (dk_at dksL_law_50 8 rfl rfl)
theorem dL_law_1323 : decode cL_law 1323 = .ok (.aload_n 0, 1) := dk_42 (dk_at dksL_law_50 9 rfl rfl)
theorem dL_law_1324 : decode cL_law 1324 = .ok (.iload 5, 2) := dk_21 5 (dk_at dksL_law_50 10 rfl rfl)
theorem dL_law_1326 : decode cL_law 1326 = .ok (.iconst 1, 1) := dk_4 (dk_at dksL_law_50 12 rfl rfl)
theorem dL_law_1327 : decode cL_law 1327 = .ok (.iadd, 1) := dk_96 (dk_at dksL_law_50 13 rfl rfl)
theorem dL_law_1328 : decode cL_law 1328 = .ok (.iaload, 1) := dk_46 (dk_at dksL_law_50 14 rfl rfl)
theorem dL_law_1329 : decode cL_law 1329 = .ok (.aload_n 0, 1) := dk_42 (dk_at dksL_law_50 15 rfl rfl)
theorem dL_law_1330 : decode cL_law 1330 = .ok (.iload 5, 2) := dk_21 5 (dk_at dksL_law_50 16 rfl rfl)
theorem dL_law_1332 : decode cL_law 1332 = .ok (.iconst 2, 1) := dk_5 (dk_at dksL_law_50 18 rfl rfl)
theorem dL_law_1333 : decode cL_law 1333 = .ok (.iadd, 1) := dk_96 (dk_at dksL_law_50 19 rfl rfl)
theorem dL_law_1334 : decode cL_law 1334 = .ok (.iaload, 1) := dk_46 (dk_at dksL_law_50 20 rfl rfl)
theorem dL_law_1335 : decode cL_law 1335 = .ok (.aload_n 3, 1) := dk_45 (dk_at dksL_law_50 21 rfl rfl)
theorem dL_law_1336 : decode cL_law 1336 = .ok (.invokestatic 199, 3) := dk_184 0 199 (dk_at dksL_law_51 0 rfl rfl)
theorem dL_law_1339 : decode cL_law 1339 = .ok (.istore 6, 2) := dk_54 6 (dk_at dksL_law_51 3 rfl rfl)
theorem dL_law_1341 : decode cL_law 1341 = .ok (.aload_n 2, 1) := dk_44 (dk_at dksL_law_51 5 rfl rfl)
theorem dL_law_1342 : decode cL_law 1342 = .ok (.aload_n 0, 1) := dk_42 (dk_at dksL_law_51 6 rfl rfl)
theorem dL_law_1343 : decode cL_law 1343 = .ok (.iload 5, 2) := dk_21 5 (dk_at dksL_law_51 7 rfl rfl)
theorem dL_law_1345 : decode cL_law 1345 = .ok (.iconst 1, 1) := dk_4 (dk_at dksL_law_51 9 rfl rfl)
theorem dL_law_1346 : decode cL_law 1346 = .ok (.iadd, 1) := dk_96 (dk_at dksL_law_51 10 rfl rfl)
theorem dL_law_1347 : decode cL_law 1347 = .ok (.iaload, 1) := dk_46 (dk_at dksL_law_51 11 rfl rfl)
theorem dL_law_1348 : decode cL_law 1348 = .ok (.aload_n 0, 1) := dk_42 (dk_at dksL_law_51 12 rfl rfl)
theorem dL_law_1349 : decode cL_law 1349 = .ok (.iload 5, 2) := dk_21 5 (dk_at dksL_law_51 13 rfl rfl)
theorem dL_law_1351 : decode cL_law 1351 = .ok (.iconst 2, 1) := dk_5 (dk_at dksL_law_51 15 rfl rfl)
theorem dL_law_1352 : decode cL_law 1352 = .ok (.iadd, 1) := dk_96 (dk_at dksL_law_51 16 rfl rfl)
theorem dL_law_1353 : decode cL_law 1353 = .ok (.iaload, 1) := dk_46 (dk_at dksL_law_51 17 rfl rfl)
theorem dL_law_1354 : decode cL_law 1354 = .ok (.invokevirtual 201, 3) := dk_182 0 201 (dk_at dksL_law_51 18 rfl rfl)
theorem dL_law_1357 : decode cL_law 1357 = .ok (.istore 7, 2) := dk_54 7 (dk_at dksL_law_51 21 rfl rfl)
theorem dL_law_1359 : decode cL_law 1359 = .ok (.aload_n 2, 1) := dk_44 (dk_at dksL_law_51 23 rfl rfl)
theorem dL_law_1360 : decode cL_law 1360 = .ok (.invokevirtual 110, 3) := dk_182 0 110 (dk_at dksL_law_52 0 rfl rfl)
theorem dL_law_1363 : decode cL_law 1363 = .ok (.iload 6, 2) := dk_21 6 (dk_at dksL_law_52 3 rfl rfl)
theorem dL_law_1365 : decode cL_law 1365 = .ok (.if_icmp .eq 5, 3) := dk_159 0 5 (dk_at dksL_law_52 5 rfl rfl)
theorem dL_law_1368 : decode cL_law 1368 = .ok (.iconst 0, 1) := dk_3 (dk_at dksL_law_52 8 rfl rfl)
theorem dL_law_1369 : decode cL_law 1369 = .ok (.ireturn, 1) := dk_172 (dk_at dksL_law_52 9 rfl rfl)
theorem dL_law_1370 : decode cL_law 1370 = .ok (.iload 6, 2) := dk_21 6 (dk_at dksL_law_52 10 rfl rfl)
theorem dL_law_1372 : decode cL_law 1372 = .ok (.ifCond .ne 15, 3) := dk_154 0 15 (dk_at dksL_law_52 12 rfl rfl)
theorem dL_law_1375 : decode cL_law 1375 = .ok (.aload_n 3, 1) := dk_45 (dk_at dksL_law_52 15 rfl rfl)
theorem dL_law_1376 : decode cL_law 1376 = .ok (.iconst 0, 1) := dk_3 (dk_at dksL_law_52 16 rfl rfl)
theorem dL_law_1377 : decode cL_law 1377 = .ok (.laload, 1) := dk_47 (dk_at dksL_law_52 17 rfl rfl)
theorem dL_law_1378 : decode cL_law 1378 = .ok (.iload 7, 2) := dk_21 7 (dk_at dksL_law_52 18 rfl rfl)
theorem dL_law_1380 : decode cL_law 1380 = .ok (.i2l, 1) := dk_133 (dk_at dksL_law_52 20 rfl rfl)
theorem dL_law_1381 : decode cL_law 1381 = .ok (.lcmp, 1) := dk_148 (dk_at dksL_law_52 21 rfl rfl)
theorem dL_law_1382 : decode cL_law 1382 = .ok (.ifCond .eq 5, 3) := dk_153 0 5 (dk_at dksL_law_53 0 rfl rfl)
theorem dL_law_1385 : decode cL_law 1385 = .ok (.iconst 0, 1) := dk_3 (dk_at dksL_law_53 3 rfl rfl)
theorem dL_law_1386 : decode cL_law 1386 = .ok (.ireturn, 1) := dk_172 (dk_at dksL_law_53 4 rfl rfl)
theorem dL_law_1387 : decode cL_law 1387 = .ok (.goto 736, 3) := dk_167 2 224 (dk_at dksL_law_53 5 rfl rfl)
theorem dL_law_1390 : decode cL_law 1390 = .ok (.aload_n 1, 1) := dk_43 (dk_at dksL_law_53 8 rfl rfl)
theorem dL_law_1391 : decode cL_law 1391 = .ok (.aload_n 0, 1) := dk_42 (dk_at dksL_law_53 9 rfl rfl)
theorem dL_law_1392 : decode cL_law 1392 = .ok (.iload 5, 2) := dk_21 5 (dk_at dksL_law_53 10 rfl rfl)
theorem dL_law_1394 : decode cL_law 1394 = .ok (.iconst 1, 1) := dk_4 (dk_at dksL_law_53 12 rfl rfl)
theorem dL_law_1395 : decode cL_law 1395 = .ok (.iadd, 1) := dk_96 (dk_at dksL_law_53 13 rfl rfl)
theorem dL_law_1396 : decode cL_law 1396 = .ok (.iaload, 1) := dk_46 (dk_at dksL_law_53 14 rfl rfl)
theorem dL_law_1397 : decode cL_law 1397 = .ok (.aload_n 0, 1) := dk_42 (dk_at dksL_law_53 15 rfl rfl)
theorem dL_law_1398 : decode cL_law 1398 = .ok (.iload 5, 2) := dk_21 5 (dk_at dksL_law_53 16 rfl rfl)
theorem dL_law_1400 : decode cL_law 1400 = .ok (.iconst 2, 1) := dk_5 (dk_at dksL_law_53 18 rfl rfl)
theorem dL_law_1401 : decode cL_law 1401 = .ok (.iadd, 1) := dk_96 (dk_at dksL_law_53 19 rfl rfl)
theorem dL_law_1402 : decode cL_law 1402 = .ok (.iaload, 1) := dk_46 (dk_at dksL_law_53 20 rfl rfl)
theorem dL_law_1403 : decode cL_law 1403 = .ok (.aload_n 3, 1) := dk_45 (dk_at dksL_law_53 21 rfl rfl)
theorem dL_law_1404 : decode cL_law 1404 = .ok (.invokestatic 202, 3) := dk_184 0 202 (dk_at dksL_law_54 0 rfl rfl)
theorem dL_law_1407 : decode cL_law 1407 = .ok (.istore 6, 2) := dk_54 6 (dk_at dksL_law_54 3 rfl rfl)
theorem dL_law_1409 : decode cL_law 1409 = .ok (.aload_n 2, 1) := dk_44 (dk_at dksL_law_54 5 rfl rfl)
theorem dL_law_1410 : decode cL_law 1410 = .ok (.aload_n 0, 1) := dk_42 (dk_at dksL_law_54 6 rfl rfl)
theorem dL_law_1411 : decode cL_law 1411 = .ok (.iload 5, 2) := dk_21 5 (dk_at dksL_law_54 7 rfl rfl)
theorem dL_law_1413 : decode cL_law 1413 = .ok (.iconst 1, 1) := dk_4 (dk_at dksL_law_54 9 rfl rfl)
theorem dL_law_1414 : decode cL_law 1414 = .ok (.iadd, 1) := dk_96 (dk_at dksL_law_54 10 rfl rfl)
theorem dL_law_1415 : decode cL_law 1415 = .ok (.iaload, 1) := dk_46 (dk_at dksL_law_54 11 rfl rfl)
theorem dL_law_1416 : decode cL_law 1416 = .ok (.aload_n 0, 1) := dk_42 (dk_at dksL_law_54 12 rfl rfl)
theorem dL_law_1417 : decode cL_law 1417 = .ok (.iload 5, 2) := dk_21 5 (dk_at dksL_law_54 13 rfl rfl)
theorem dL_law_1419 : decode cL_law 1419 = .ok (.iconst 2, 1) := dk_5 (dk_at dksL_law_54 15 rfl rfl)
theorem dL_law_1420 : decode cL_law 1420 = .ok (.iadd, 1) := dk_96 (dk_at dksL_law_54 16 rfl rfl)
theorem dL_law_1421 : decode cL_law 1421 = .ok (.iaload, 1) := dk_46 (dk_at dksL_law_54 17 rfl rfl)
theorem dL_law_1422 : decode cL_law 1422 = .ok (.invokevirtual 204, 3) := dk_182 0 204 (dk_at dksL_law_54 18 rfl rfl)
theorem dL_law_1425 : decode cL_law 1425 = .ok (.istore 7, 2) := dk_54 7 (dk_at dksL_law_54 21 rfl rfl)
theorem dL_law_1427 : decode cL_law 1427 = .ok (.aload_n 2, 1) := dk_44 (dk_at dksL_law_54 23 rfl rfl)
theorem dL_law_1428 : decode cL_law 1428 = .ok (.invokevirtual 110, 3) := dk_182 0 110 (dk_at dksL_law_55 0 rfl rfl)
theorem dL_law_1431 : decode cL_law 1431 = .ok (.iload 6, 2) := dk_21 6 (dk_at dksL_law_55 3 rfl rfl)
theorem dL_law_1433 : decode cL_law 1433 = .ok (.if_icmp .eq 5, 3) := dk_159 0 5 (dk_at dksL_law_55 5 rfl rfl)
theorem dL_law_1436 : decode cL_law 1436 = .ok (.iconst 0, 1) := dk_3 (dk_at dksL_law_55 8 rfl rfl)
theorem dL_law_1437 : decode cL_law 1437 = .ok (.ireturn, 1) := dk_172 (dk_at dksL_law_55 9 rfl rfl)
theorem dL_law_1438 : decode cL_law 1438 = .ok (.iload 6, 2) := dk_21 6 (dk_at dksL_law_55 10 rfl rfl)
theorem dL_law_1440 : decode cL_law 1440 = .ok (.ifCond .ne 15, 3) := dk_154 0 15 (dk_at dksL_law_55 12 rfl rfl)
theorem dL_law_1443 : decode cL_law 1443 = .ok (.aload_n 3, 1) := dk_45 (dk_at dksL_law_55 15 rfl rfl)
theorem dL_law_1444 : decode cL_law 1444 = .ok (.iconst 0, 1) := dk_3 (dk_at dksL_law_55 16 rfl rfl)
theorem dL_law_1445 : decode cL_law 1445 = .ok (.laload, 1) := dk_47 (dk_at dksL_law_55 17 rfl rfl)
theorem dL_law_1446 : decode cL_law 1446 = .ok (.iload 7, 2) := dk_21 7 (dk_at dksL_law_55 18 rfl rfl)
theorem dL_law_1448 : decode cL_law 1448 = .ok (.i2l, 1) := dk_133 (dk_at dksL_law_55 20 rfl rfl)
theorem dL_law_1449 : decode cL_law 1449 = .ok (.lcmp, 1) := dk_148 (dk_at dksL_law_55 21 rfl rfl)
theorem dL_law_1450 : decode cL_law 1450 = .ok (.ifCond .eq 5, 3) := dk_153 0 5 (dk_at dksL_law_56 0 rfl rfl)
theorem dL_law_1453 : decode cL_law 1453 = .ok (.iconst 0, 1) := dk_3 (dk_at dksL_law_56 3 rfl rfl)
theorem dL_law_1454 : decode cL_law 1454 = .ok (.ireturn, 1) := dk_172 (dk_at dksL_law_56 4 rfl rfl)
theorem dL_law_1455 : decode cL_law 1455 = .ok (.goto 668, 3) := dk_167 2 156 (dk_at dksL_law_56 5 rfl rfl)
theorem dL_law_1458 : decode cL_law 1458 = .ok (.aload_n 1, 1) := dk_43 (dk_at dksL_law_56 8 rfl rfl)
theorem dL_law_1459 : decode cL_law 1459 = .ok (.aload_n 0, 1) := dk_42 (dk_at dksL_law_56 9 rfl rfl)
theorem dL_law_1460 : decode cL_law 1460 = .ok (.iload 5, 2) := dk_21 5 (dk_at dksL_law_56 10 rfl rfl)
theorem dL_law_1462 : decode cL_law 1462 = .ok (.iconst 1, 1) := dk_4 (dk_at dksL_law_56 12 rfl rfl)
theorem dL_law_1463 : decode cL_law 1463 = .ok (.iadd, 1) := dk_96 (dk_at dksL_law_56 13 rfl rfl)
theorem dL_law_1464 : decode cL_law 1464 = .ok (.iaload, 1) := dk_46 (dk_at dksL_law_56 14 rfl rfl)
theorem dL_law_1465 : decode cL_law 1465 = .ok (.aload_n 0, 1) := dk_42 (dk_at dksL_law_56 15 rfl rfl)
theorem dL_law_1466 : decode cL_law 1466 = .ok (.iload 5, 2) := dk_21 5 (dk_at dksL_law_56 16 rfl rfl)
theorem dL_law_1468 : decode cL_law 1468 = .ok (.iconst 2, 1) := dk_5 (dk_at dksL_law_56 18 rfl rfl)
theorem dL_law_1469 : decode cL_law 1469 = .ok (.iadd, 1) := dk_96 (dk_at dksL_law_56 19 rfl rfl)
theorem dL_law_1470 : decode cL_law 1470 = .ok (.iaload, 1) := dk_46 (dk_at dksL_law_56 20 rfl rfl)
theorem dL_law_1471 : decode cL_law 1471 = .ok (.aload_n 3, 1) := dk_45 (dk_at dksL_law_56 21 rfl rfl)
theorem dL_law_1472 : decode cL_law 1472 = .ok (.invokestatic 205, 3) := dk_184 0 205 (dk_at dksL_law_57 0 rfl rfl)
theorem dL_law_1475 : decode cL_law 1475 = .ok (.istore 6, 2) := dk_54 6 (dk_at dksL_law_57 3 rfl rfl)
theorem dL_law_1477 : decode cL_law 1477 = .ok (.aload_n 2, 1) := dk_44 (dk_at dksL_law_57 5 rfl rfl)
theorem dL_law_1478 : decode cL_law 1478 = .ok (.aload_n 0, 1) := dk_42 (dk_at dksL_law_57 6 rfl rfl)
theorem dL_law_1479 : decode cL_law 1479 = .ok (.iload 5, 2) := dk_21 5 (dk_at dksL_law_57 7 rfl rfl)
theorem dL_law_1481 : decode cL_law 1481 = .ok (.iconst 1, 1) := dk_4 (dk_at dksL_law_57 9 rfl rfl)
theorem dL_law_1482 : decode cL_law 1482 = .ok (.iadd, 1) := dk_96 (dk_at dksL_law_57 10 rfl rfl)
theorem dL_law_1483 : decode cL_law 1483 = .ok (.iaload, 1) := dk_46 (dk_at dksL_law_57 11 rfl rfl)
theorem dL_law_1484 : decode cL_law 1484 = .ok (.aload_n 0, 1) := dk_42 (dk_at dksL_law_57 12 rfl rfl)
theorem dL_law_1485 : decode cL_law 1485 = .ok (.iload 5, 2) := dk_21 5 (dk_at dksL_law_57 13 rfl rfl)
theorem dL_law_1487 : decode cL_law 1487 = .ok (.iconst 2, 1) := dk_5 (dk_at dksL_law_57 15 rfl rfl)
theorem dL_law_1488 : decode cL_law 1488 = .ok (.iadd, 1) := dk_96 (dk_at dksL_law_57 16 rfl rfl)
theorem dL_law_1489 : decode cL_law 1489 = .ok (.iaload, 1) := dk_46 (dk_at dksL_law_57 17 rfl rfl)
theorem dL_law_1490 : decode cL_law 1490 = .ok (.invokevirtual 207, 3) := dk_182 0 207 (dk_at dksL_law_57 18 rfl rfl)
theorem dL_law_1493 : decode cL_law 1493 = .ok (.istore 7, 2) := dk_54 7 (dk_at dksL_law_57 21 rfl rfl)
theorem dL_law_1495 : decode cL_law 1495 = .ok (.aload_n 2, 1) := dk_44 (dk_at dksL_law_57 23 rfl rfl)
theorem dL_law_1496 : decode cL_law 1496 = .ok (.invokevirtual 110, 3) := dk_182 0 110 (dk_at dksL_law_58 0 rfl rfl)
theorem dL_law_1499 : decode cL_law 1499 = .ok (.iload 6, 2) := dk_21 6 (dk_at dksL_law_58 3 rfl rfl)
theorem dL_law_1501 : decode cL_law 1501 = .ok (.if_icmp .eq 5, 3) := dk_159 0 5 (dk_at dksL_law_58 5 rfl rfl)
theorem dL_law_1504 : decode cL_law 1504 = .ok (.iconst 0, 1) := dk_3 (dk_at dksL_law_58 8 rfl rfl)
theorem dL_law_1505 : decode cL_law 1505 = .ok (.ireturn, 1) := dk_172 (dk_at dksL_law_58 9 rfl rfl)
theorem dL_law_1506 : decode cL_law 1506 = .ok (.iload 6, 2) := dk_21 6 (dk_at dksL_law_58 10 rfl rfl)
theorem dL_law_1508 : decode cL_law 1508 = .ok (.ifCond .ne 15, 3) := dk_154 0 15 (dk_at dksL_law_58 12 rfl rfl)
theorem dL_law_1511 : decode cL_law 1511 = .ok (.aload_n 3, 1) := dk_45 (dk_at dksL_law_58 15 rfl rfl)
theorem dL_law_1512 : decode cL_law 1512 = .ok (.iconst 0, 1) := dk_3 (dk_at dksL_law_58 16 rfl rfl)
theorem dL_law_1513 : decode cL_law 1513 = .ok (.laload, 1) := dk_47 (dk_at dksL_law_58 17 rfl rfl)
theorem dL_law_1514 : decode cL_law 1514 = .ok (.iload 7, 2) := dk_21 7 (dk_at dksL_law_58 18 rfl rfl)
theorem dL_law_1516 : decode cL_law 1516 = .ok (.i2l, 1) := dk_133 (dk_at dksL_law_58 20 rfl rfl)
theorem dL_law_1517 : decode cL_law 1517 = .ok (.lcmp, 1) := dk_148 (dk_at dksL_law_58 21 rfl rfl)
theorem dL_law_1518 : decode cL_law 1518 = .ok (.ifCond .eq 5, 3) := dk_153 0 5 (dk_at dksL_law_59 0 rfl rfl)
theorem dL_law_1521 : decode cL_law 1521 = .ok (.iconst 0, 1) := dk_3 (dk_at dksL_law_59 3 rfl rfl)
theorem dL_law_1522 : decode cL_law 1522 = .ok (.ireturn, 1) := dk_172 (dk_at dksL_law_59 4 rfl rfl)
theorem dL_law_1523 : decode cL_law 1523 = .ok (.goto 600, 3) := dk_167 2 88 (dk_at dksL_law_59 5 rfl rfl)
theorem dL_law_1526 : decode cL_law 1526 = .ok (.aload_n 1, 1) := dk_43 (dk_at dksL_law_59 8 rfl rfl)
theorem dL_law_1527 : decode cL_law 1527 = .ok (.aload_n 0, 1) := dk_42 (dk_at dksL_law_59 9 rfl rfl)
theorem dL_law_1528 : decode cL_law 1528 = .ok (.iload 5, 2) := dk_21 5 (dk_at dksL_law_59 10 rfl rfl)
theorem dL_law_1530 : decode cL_law 1530 = .ok (.iconst 1, 1) := dk_4 (dk_at dksL_law_59 12 rfl rfl)
theorem dL_law_1531 : decode cL_law 1531 = .ok (.iadd, 1) := dk_96 (dk_at dksL_law_59 13 rfl rfl)
theorem dL_law_1532 : decode cL_law 1532 = .ok (.iaload, 1) := dk_46 (dk_at dksL_law_59 14 rfl rfl)
theorem dL_law_1533 : decode cL_law 1533 = .ok (.aload_n 0, 1) := dk_42 (dk_at dksL_law_59 15 rfl rfl)
theorem dL_law_1534 : decode cL_law 1534 = .ok (.iload 5, 2) := dk_21 5 (dk_at dksL_law_59 16 rfl rfl)
theorem dL_law_1536 : decode cL_law 1536 = .ok (.iconst 2, 1) := dk_5 (dk_at dksL_law_59 18 rfl rfl)
theorem dL_law_1537 : decode cL_law 1537 = .ok (.iadd, 1) := dk_96 (dk_at dksL_law_59 19 rfl rfl)
theorem dL_law_1538 : decode cL_law 1538 = .ok (.iaload, 1) := dk_46 (dk_at dksL_law_59 20 rfl rfl)
theorem dL_law_1539 : decode cL_law 1539 = .ok (.aload_n 0, 1) := dk_42 (dk_at dksL_law_59 21 rfl rfl)
theorem dL_law_1540 : decode cL_law 1540 = .ok (.iload 5, 2) := dk_21 5 (dk_at dksL_law_59 22 rfl rfl)
theorem dL_law_1542 : decode cL_law 1542 = .ok (.iconst 3, 1) := dk_6 (dk_at dksL_law_60 0 rfl rfl)
theorem dL_law_1543 : decode cL_law 1543 = .ok (.iadd, 1) := dk_96 (dk_at dksL_law_60 1 rfl rfl)
theorem dL_law_1544 : decode cL_law 1544 = .ok (.iaload, 1) := dk_46 (dk_at dksL_law_60 2 rfl rfl)
theorem dL_law_1545 : decode cL_law 1545 = .ok (.aload_n 3, 1) := dk_45 (dk_at dksL_law_60 3 rfl rfl)
theorem dL_law_1546 : decode cL_law 1546 = .ok (.invokestatic 208, 3) := dk_184 0 208 (dk_at dksL_law_60 4 rfl rfl)
theorem dL_law_1549 : decode cL_law 1549 = .ok (.istore 6, 2) := dk_54 6 (dk_at dksL_law_60 7 rfl rfl)
theorem dL_law_1551 : decode cL_law 1551 = .ok (.aload_n 2, 1) := dk_44 (dk_at dksL_law_60 9 rfl rfl)
theorem dL_law_1552 : decode cL_law 1552 = .ok (.aload_n 0, 1) := dk_42 (dk_at dksL_law_60 10 rfl rfl)
theorem dL_law_1553 : decode cL_law 1553 = .ok (.iload 5, 2) := dk_21 5 (dk_at dksL_law_60 11 rfl rfl)
theorem dL_law_1555 : decode cL_law 1555 = .ok (.iconst 1, 1) := dk_4 (dk_at dksL_law_60 13 rfl rfl)
theorem dL_law_1556 : decode cL_law 1556 = .ok (.iadd, 1) := dk_96 (dk_at dksL_law_60 14 rfl rfl)
theorem dL_law_1557 : decode cL_law 1557 = .ok (.iaload, 1) := dk_46 (dk_at dksL_law_60 15 rfl rfl)
theorem dL_law_1558 : decode cL_law 1558 = .ok (.aload_n 0, 1) := dk_42 (dk_at dksL_law_60 16 rfl rfl)
theorem dL_law_1559 : decode cL_law 1559 = .ok (.iload 5, 2) := dk_21 5 (dk_at dksL_law_60 17 rfl rfl)
theorem dL_law_1561 : decode cL_law 1561 = .ok (.iconst 2, 1) := dk_5 (dk_at dksL_law_60 19 rfl rfl)
theorem dL_law_1562 : decode cL_law 1562 = .ok (.iadd, 1) := dk_96 (dk_at dksL_law_60 20 rfl rfl)
theorem dL_law_1563 : decode cL_law 1563 = .ok (.iaload, 1) := dk_46 (dk_at dksL_law_60 21 rfl rfl)
theorem dL_law_1564 : decode cL_law 1564 = .ok (.aload_n 0, 1) := dk_42 (dk_at dksL_law_60 22 rfl rfl)
theorem dL_law_1565 : decode cL_law 1565 = .ok (.iload 5, 2) := dk_21 5 (dk_at dksL_law_61 0 rfl rfl)
theorem dL_law_1567 : decode cL_law 1567 = .ok (.iconst 3, 1) := dk_6 (dk_at dksL_law_61 2 rfl rfl)
theorem dL_law_1568 : decode cL_law 1568 = .ok (.iadd, 1) := dk_96 (dk_at dksL_law_61 3 rfl rfl)
theorem dL_law_1569 : decode cL_law 1569 = .ok (.iaload, 1) := dk_46 (dk_at dksL_law_61 4 rfl rfl)
theorem dL_law_1570 : decode cL_law 1570 = .ok (.invokevirtual 210, 3) := dk_182 0 210 (dk_at dksL_law_61 5 rfl rfl)
theorem dL_law_1573 : decode cL_law 1573 = .ok (.istore 7, 2) := dk_54 7 (dk_at dksL_law_61 8 rfl rfl)
theorem dL_law_1575 : decode cL_law 1575 = .ok (.aload_n 2, 1) := dk_44 (dk_at dksL_law_61 10 rfl rfl)
theorem dL_law_1576 : decode cL_law 1576 = .ok (.invokevirtual 110, 3) := dk_182 0 110 (dk_at dksL_law_61 11 rfl rfl)
theorem dL_law_1579 : decode cL_law 1579 = .ok (.iload 6, 2) := dk_21 6 (dk_at dksL_law_61 14 rfl rfl)
theorem dL_law_1581 : decode cL_law 1581 = .ok (.if_icmp .eq 5, 3) := dk_159 0 5 (dk_at dksL_law_61 16 rfl rfl)
theorem dL_law_1584 : decode cL_law 1584 = .ok (.iconst 0, 1) := dk_3 (dk_at dksL_law_61 19 rfl rfl)
theorem dL_law_1585 : decode cL_law 1585 = .ok (.ireturn, 1) := dk_172 (dk_at dksL_law_61 20 rfl rfl)
theorem dL_law_1586 : decode cL_law 1586 = .ok (.iload 6, 2) := dk_21 6 (dk_at dksL_law_61 21 rfl rfl)
theorem dL_law_1588 : decode cL_law 1588 = .ok (.ifCond .ne 15, 3) := dk_154 0 15 (dk_at dksL_law_62 0 rfl rfl)
theorem dL_law_1591 : decode cL_law 1591 = .ok (.aload_n 3, 1) := dk_45 (dk_at dksL_law_62 3 rfl rfl)
theorem dL_law_1592 : decode cL_law 1592 = .ok (.iconst 0, 1) := dk_3 (dk_at dksL_law_62 4 rfl rfl)
theorem dL_law_1593 : decode cL_law 1593 = .ok (.laload, 1) := dk_47 (dk_at dksL_law_62 5 rfl rfl)
theorem dL_law_1594 : decode cL_law 1594 = .ok (.iload 7, 2) := dk_21 7 (dk_at dksL_law_62 6 rfl rfl)
theorem dL_law_1596 : decode cL_law 1596 = .ok (.i2l, 1) := dk_133 (dk_at dksL_law_62 8 rfl rfl)
theorem dL_law_1597 : decode cL_law 1597 = .ok (.lcmp, 1) := dk_148 (dk_at dksL_law_62 9 rfl rfl)
theorem dL_law_1598 : decode cL_law 1598 = .ok (.ifCond .eq 5, 3) := dk_153 0 5 (dk_at dksL_law_62 10 rfl rfl)
theorem dL_law_1601 : decode cL_law 1601 = .ok (.iconst 0, 1) := dk_3 (dk_at dksL_law_62 13 rfl rfl)
theorem dL_law_1602 : decode cL_law 1602 = .ok (.ireturn, 1) := dk_172 (dk_at dksL_law_62 14 rfl rfl)
theorem dL_law_1603 : decode cL_law 1603 = .ok (.goto 520, 3) := dk_167 2 8 (dk_at dksL_law_62 15 rfl rfl)
theorem dL_law_1606 : decode cL_law 1606 = .ok (.aload_n 1, 1) := dk_43 (dk_at dksL_law_62 18 rfl rfl)
theorem dL_law_1607 : decode cL_law 1607 = .ok (.invokevirtual 211, 3) := dk_182 0 211 (dk_at dksL_law_62 19 rfl rfl)
theorem dL_law_1610 : decode cL_law 1610 = .ok (.aload_n 2, 1) := dk_44 (dk_at dksL_law_62 22 rfl rfl)
theorem dL_law_1611 : decode cL_law 1611 = .ok (.invokevirtual 214, 3) := dk_182 0 214 (dk_at dksL_law_63 0 rfl rfl)
theorem dL_law_1614 : decode cL_law 1614 = .ok (.if_icmp .eq 509, 3) := dk_159 1 253 (dk_at dksL_law_63 3 rfl rfl)
theorem dL_law_1617 : decode cL_law 1617 = .ok (.iconst 0, 1) := dk_3 (dk_at dksL_law_63 6 rfl rfl)
theorem dL_law_1618 : decode cL_law 1618 = .ok (.ireturn, 1) := dk_172 (dk_at dksL_law_63 7 rfl rfl)
theorem dL_law_1619 : decode cL_law 1619 = .ok (.aload_n 1, 1) := dk_43 (dk_at dksL_law_63 8 rfl rfl)
theorem dL_law_1620 : decode cL_law 1620 = .ok (.invokevirtual 215, 3) := dk_182 0 215 (dk_at dksL_law_63 9 rfl rfl)
theorem dL_law_1623 : decode cL_law 1623 = .ok (.aload_n 2, 1) := dk_44 (dk_at dksL_law_63 12 rfl rfl)
theorem dL_law_1624 : decode cL_law 1624 = .ok (.invokevirtual 218, 3) := dk_182 0 218 (dk_at dksL_law_63 13 rfl rfl)
theorem dL_law_1627 : decode cL_law 1627 = .ok (.if_icmp .eq 496, 3) := dk_159 1 240 (dk_at dksL_law_63 16 rfl rfl)
theorem dL_law_1630 : decode cL_law 1630 = .ok (.iconst 0, 1) := dk_3 (dk_at dksL_law_63 19 rfl rfl)
theorem dL_law_1631 : decode cL_law 1631 = .ok (.ireturn, 1) := dk_172 (dk_at dksL_law_63 20 rfl rfl)
theorem dL_law_1632 : decode cL_law 1632 = .ok (.aload_n 1, 1) := dk_43 (dk_at dksL_law_63 21 rfl rfl)
theorem dL_law_1633 : decode cL_law 1633 = .ok (.invokevirtual 219, 3) := dk_182 0 219 (dk_at dksL_law_64 0 rfl rfl)
theorem dL_law_1636 : decode cL_law 1636 = .ok (.aload_n 2, 1) := dk_44 (dk_at dksL_law_64 3 rfl rfl)
theorem dL_law_1637 : decode cL_law 1637 = .ok (.invokevirtual 222, 3) := dk_182 0 222 (dk_at dksL_law_64 4 rfl rfl)
theorem dL_law_1640 : decode cL_law 1640 = .ok (.if_icmp .eq 483, 3) := dk_159 1 227 (dk_at dksL_law_64 7 rfl rfl)
theorem dL_law_1643 : decode cL_law 1643 = .ok (.iconst 0, 1) := dk_3 (dk_at dksL_law_64 10 rfl rfl)
theorem dL_law_1644 : decode cL_law 1644 = .ok (.ireturn, 1) := dk_172 (dk_at dksL_law_64 11 rfl rfl)
theorem dL_law_1645 : decode cL_law 1645 = .ok (.aload_n 1, 1) := dk_43 (dk_at dksL_law_64 12 rfl rfl)
theorem dL_law_1646 : decode cL_law 1646 = .ok (.aload_n 0, 1) := dk_42 (dk_at dksL_law_64 13 rfl rfl)
theorem dL_law_1647 : decode cL_law 1647 = .ok (.iload 5, 2) := dk_21 5 (dk_at dksL_law_64 14 rfl rfl)
theorem dL_law_1649 : decode cL_law 1649 = .ok (.iconst 1, 1) := dk_4 (dk_at dksL_law_64 16 rfl rfl)
theorem dL_law_1650 : decode cL_law 1650 = .ok (.iadd, 1) := dk_96 (dk_at dksL_law_64 17 rfl rfl)
theorem dL_law_1651 : decode cL_law 1651 = .ok (.iaload, 1) := dk_46 (dk_at dksL_law_64 18 rfl rfl)
theorem dL_law_1652 : decode cL_law 1652 = .ok (.aload_n 3, 1) := dk_45 (dk_at dksL_law_64 19 rfl rfl)
theorem dL_law_1653 : decode cL_law 1653 = .ok (.invokestatic 223, 3) := dk_184 0 223 (dk_at dksL_law_64 20 rfl rfl)
theorem dL_law_1656 : decode cL_law 1656 = .ok (.istore 6, 2) := dk_54 6 (dk_at dksL_law_65 0 rfl rfl)
theorem dL_law_1658 : decode cL_law 1658 = .ok (.aload_n 2, 1) := dk_44 (dk_at dksL_law_65 2 rfl rfl)
theorem dL_law_1659 : decode cL_law 1659 = .ok (.aload_n 0, 1) := dk_42 (dk_at dksL_law_65 3 rfl rfl)
theorem dL_law_1660 : decode cL_law 1660 = .ok (.iload 5, 2) := dk_21 5 (dk_at dksL_law_65 4 rfl rfl)
theorem dL_law_1662 : decode cL_law 1662 = .ok (.iconst 1, 1) := dk_4 (dk_at dksL_law_65 6 rfl rfl)
theorem dL_law_1663 : decode cL_law 1663 = .ok (.iadd, 1) := dk_96 (dk_at dksL_law_65 7 rfl rfl)
theorem dL_law_1664 : decode cL_law 1664 = .ok (.iaload, 1) := dk_46 (dk_at dksL_law_65 8 rfl rfl)
theorem dL_law_1665 : decode cL_law 1665 = .ok (.invokevirtual 225, 3) := dk_182 0 225 (dk_at dksL_law_65 9 rfl rfl)
theorem dL_law_1668 : decode cL_law 1668 = .ok (.istore 7, 2) := dk_54 7 (dk_at dksL_law_65 12 rfl rfl)
theorem dL_law_1670 : decode cL_law 1670 = .ok (.aload_n 2, 1) := dk_44 (dk_at dksL_law_65 14 rfl rfl)
theorem dL_law_1671 : decode cL_law 1671 = .ok (.invokevirtual 110, 3) := dk_182 0 110 (dk_at dksL_law_65 15 rfl rfl)
theorem dL_law_1674 : decode cL_law 1674 = .ok (.iload 6, 2) := dk_21 6 (dk_at dksL_law_65 18 rfl rfl)
theorem dL_law_1676 : decode cL_law 1676 = .ok (.if_icmp .eq 5, 3) := dk_159 0 5 (dk_at dksL_law_65 20 rfl rfl)
theorem dL_law_1679 : decode cL_law 1679 = .ok (.iconst 0, 1) := dk_3 (dk_at dksL_law_65 23 rfl rfl)
theorem dL_law_1680 : decode cL_law 1680 = .ok (.ireturn, 1) := dk_172 (dk_at dksL_law_66 0 rfl rfl)
theorem dL_law_1681 : decode cL_law 1681 = .ok (.iload 6, 2) := dk_21 6 (dk_at dksL_law_66 1 rfl rfl)
theorem dL_law_1683 : decode cL_law 1683 = .ok (.ifCond .ne 22, 3) := dk_154 0 22 (dk_at dksL_law_66 3 rfl rfl)
theorem dL_law_1686 : decode cL_law 1686 = .ok (.aload_n 3, 1) := dk_45 (dk_at dksL_law_66 6 rfl rfl)
theorem dL_law_1687 : decode cL_law 1687 = .ok (.iconst 0, 1) := dk_3 (dk_at dksL_law_66 7 rfl rfl)
theorem dL_law_1688 : decode cL_law 1688 = .ok (.laload, 1) := dk_47 (dk_at dksL_law_66 8 rfl rfl)
theorem dL_law_1689 : decode cL_law 1689 = .ok (.iload 7, 2) := dk_21 7 (dk_at dksL_law_66 9 rfl rfl)
theorem dL_law_1691 : decode cL_law 1691 = .ok (.ifCond .eq 7, 3) := dk_153 0 7 (dk_at dksL_law_66 11 rfl rfl)
theorem dL_law_1694 : decode cL_law 1694 = .ok (.lconst 1, 1) := dk_10 (dk_at dksL_law_66 14 rfl rfl)
theorem dL_law_1695 : decode cL_law 1695 = .ok (.goto 4, 3) := dk_167 0 4 (dk_at dksL_law_66 15 rfl rfl)
theorem dL_law_1698 : decode cL_law 1698 = .ok (.lconst 0, 1) := dk_9 (dk_at dksL_law_66 18 rfl rfl)
theorem dL_law_1699 : decode cL_law 1699 = .ok (.lcmp, 1) := dk_148 (dk_at dksL_law_66 19 rfl rfl)
theorem dL_law_1700 : decode cL_law 1700 = .ok (.ifCond .eq 5, 3) := dk_153 0 5 (dk_at dksL_law_66 20 rfl rfl)
theorem dL_law_1703 : decode cL_law 1703 = .ok (.iconst 0, 1) := dk_3 (dk_at dksL_law_66 23 rfl rfl)
theorem dL_law_1704 : decode cL_law 1704 = .ok (.ireturn, 1) := dk_172 (dk_at dksL_law_67 0 rfl rfl)
theorem dL_law_1705 : decode cL_law 1705 = .ok (.goto 418, 3) := dk_167 1 162 (dk_at dksL_law_67 1 rfl rfl)
theorem dL_law_1708 : decode cL_law 1708 = .ok (.aload_n 1, 1) := dk_43 (dk_at dksL_law_67 4 rfl rfl)
theorem dL_law_1709 : decode cL_law 1709 = .ok (.aload_n 0, 1) := dk_42 (dk_at dksL_law_67 5 rfl rfl)
theorem dL_law_1710 : decode cL_law 1710 = .ok (.iload 5, 2) := dk_21 5 (dk_at dksL_law_67 6 rfl rfl)
theorem dL_law_1712 : decode cL_law 1712 = .ok (.iconst 1, 1) := dk_4 (dk_at dksL_law_67 8 rfl rfl)
theorem dL_law_1713 : decode cL_law 1713 = .ok (.iadd, 1) := dk_96 (dk_at dksL_law_67 9 rfl rfl)
theorem dL_law_1714 : decode cL_law 1714 = .ok (.iaload, 1) := dk_46 (dk_at dksL_law_67 10 rfl rfl)
theorem dL_law_1715 : decode cL_law 1715 = .ok (.aload_n 3, 1) := dk_45 (dk_at dksL_law_67 11 rfl rfl)
theorem dL_law_1716 : decode cL_law 1716 = .ok (.invokestatic 226, 3) := dk_184 0 226 (dk_at dksL_law_67 12 rfl rfl)
theorem dL_law_1719 : decode cL_law 1719 = .ok (.istore 6, 2) := dk_54 6 (dk_at dksL_law_67 15 rfl rfl)
theorem dL_law_1721 : decode cL_law 1721 = .ok (.aload_n 2, 1) := dk_44 (dk_at dksL_law_67 17 rfl rfl)
theorem dL_law_1722 : decode cL_law 1722 = .ok (.aload_n 0, 1) := dk_42 (dk_at dksL_law_67 18 rfl rfl)
theorem dL_law_1723 : decode cL_law 1723 = .ok (.iload 5, 2) := dk_21 5 (dk_at dksL_law_67 19 rfl rfl)
theorem dL_law_1725 : decode cL_law 1725 = .ok (.iconst 1, 1) := dk_4 (dk_at dksL_law_67 21 rfl rfl)
theorem dL_law_1726 : decode cL_law 1726 = .ok (.iadd, 1) := dk_96 (dk_at dksL_law_67 22 rfl rfl)
theorem dL_law_1727 : decode cL_law 1727 = .ok (.iaload, 1) := dk_46 (dk_at dksL_law_67 23 rfl rfl)
theorem dL_law_1728 : decode cL_law 1728 = .ok (.invokevirtual 228, 3) := dk_182 0 228 (dk_at dksL_law_68 0 rfl rfl)
theorem dL_law_1731 : decode cL_law 1731 = .ok (.istore 7, 2) := dk_54 7 (dk_at dksL_law_68 3 rfl rfl)
theorem dL_law_1733 : decode cL_law 1733 = .ok (.aload_n 2, 1) := dk_44 (dk_at dksL_law_68 5 rfl rfl)
theorem dL_law_1734 : decode cL_law 1734 = .ok (.invokevirtual 110, 3) := dk_182 0 110 (dk_at dksL_law_68 6 rfl rfl)
theorem dL_law_1737 : decode cL_law 1737 = .ok (.iload 6, 2) := dk_21 6 (dk_at dksL_law_68 9 rfl rfl)
theorem dL_law_1739 : decode cL_law 1739 = .ok (.if_icmp .eq 5, 3) := dk_159 0 5 (dk_at dksL_law_68 11 rfl rfl)
theorem dL_law_1742 : decode cL_law 1742 = .ok (.iconst 0, 1) := dk_3 (dk_at dksL_law_68 14 rfl rfl)
theorem dL_law_1743 : decode cL_law 1743 = .ok (.ireturn, 1) := dk_172 (dk_at dksL_law_68 15 rfl rfl)
theorem dL_law_1744 : decode cL_law 1744 = .ok (.iload 6, 2) := dk_21 6 (dk_at dksL_law_68 16 rfl rfl)
theorem dL_law_1746 : decode cL_law 1746 = .ok (.ifCond .ne 15, 3) := dk_154 0 15 (dk_at dksL_law_68 18 rfl rfl)
theorem dL_law_1749 : decode cL_law 1749 = .ok (.aload_n 3, 1) := dk_45 (dk_at dksL_law_68 21 rfl rfl)
theorem dL_law_1750 : decode cL_law 1750 = .ok (.iconst 0, 1) := dk_3 (dk_at dksL_law_68 22 rfl rfl)
theorem dL_law_1751 : decode cL_law 1751 = .ok (.laload, 1) := dk_47 (dk_at dksL_law_68 23 rfl rfl)
theorem dL_law_1752 : decode cL_law 1752 = .ok (.iload 7, 2) := dk_21 7 (dk_at dksL_law_69 0 rfl rfl)
theorem dL_law_1754 : decode cL_law 1754 = .ok (.i2l, 1) := dk_133 (dk_at dksL_law_69 2 rfl rfl)
theorem dL_law_1755 : decode cL_law 1755 = .ok (.lcmp, 1) := dk_148 (dk_at dksL_law_69 3 rfl rfl)
theorem dL_law_1756 : decode cL_law 1756 = .ok (.ifCond .eq 5, 3) := dk_153 0 5 (dk_at dksL_law_69 4 rfl rfl)
theorem dL_law_1759 : decode cL_law 1759 = .ok (.iconst 0, 1) := dk_3 (dk_at dksL_law_69 7 rfl rfl)
theorem dL_law_1760 : decode cL_law 1760 = .ok (.ireturn, 1) := dk_172 (dk_at dksL_law_69 8 rfl rfl)
theorem dL_law_1761 : decode cL_law 1761 = .ok (.goto 362, 3) := dk_167 1 106 (dk_at dksL_law_69 9 rfl rfl)
theorem dL_law_1764 : decode cL_law 1764 = .ok (.aload_n 1, 1) := dk_43 (dk_at dksL_law_69 12 rfl rfl)
theorem dL_law_1765 : decode cL_law 1765 = .ok (.aload_n 0, 1) := dk_42 (dk_at dksL_law_69 13 rfl rfl)
theorem dL_law_1766 : decode cL_law 1766 = .ok (.iload 5, 2) := dk_21 5 (dk_at dksL_law_69 14 rfl rfl)
theorem dL_law_1768 : decode cL_law 1768 = .ok (.iconst 1, 1) := dk_4 (dk_at dksL_law_69 16 rfl rfl)
theorem dL_law_1769 : decode cL_law 1769 = .ok (.iadd, 1) := dk_96 (dk_at dksL_law_69 17 rfl rfl)
theorem dL_law_1770 : decode cL_law 1770 = .ok (.iaload, 1) := dk_46 (dk_at dksL_law_69 18 rfl rfl)
theorem dL_law_1771 : decode cL_law 1771 = .ok (.aload_n 3, 1) := dk_45 (dk_at dksL_law_69 19 rfl rfl)
theorem dL_law_1772 : decode cL_law 1772 = .ok (.invokestatic 229, 3) := dk_184 0 229 (dk_at dksL_law_69 20 rfl rfl)
theorem dL_law_1775 : decode cL_law 1775 = .ok (.istore 6, 2) := dk_54 6 (dk_at dksL_law_70 0 rfl rfl)
theorem dL_law_1777 : decode cL_law 1777 = .ok (.aload_n 2, 1) := dk_44 (dk_at dksL_law_70 2 rfl rfl)
theorem dL_law_1778 : decode cL_law 1778 = .ok (.aload_n 0, 1) := dk_42 (dk_at dksL_law_70 3 rfl rfl)
theorem dL_law_1779 : decode cL_law 1779 = .ok (.iload 5, 2) := dk_21 5 (dk_at dksL_law_70 4 rfl rfl)
theorem dL_law_1781 : decode cL_law 1781 = .ok (.iconst 1, 1) := dk_4 (dk_at dksL_law_70 6 rfl rfl)
theorem dL_law_1782 : decode cL_law 1782 = .ok (.iadd, 1) := dk_96 (dk_at dksL_law_70 7 rfl rfl)
theorem dL_law_1783 : decode cL_law 1783 = .ok (.iaload, 1) := dk_46 (dk_at dksL_law_70 8 rfl rfl)
theorem dL_law_1784 : decode cL_law 1784 = .ok (.invokevirtual 231, 3) := dk_182 0 231 (dk_at dksL_law_70 9 rfl rfl)
theorem dL_law_1787 : decode cL_law 1787 = .ok (.istore 7, 2) := dk_54 7 (dk_at dksL_law_70 12 rfl rfl)
theorem dL_law_1789 : decode cL_law 1789 = .ok (.aload_n 2, 1) := dk_44 (dk_at dksL_law_70 14 rfl rfl)
theorem dL_law_1790 : decode cL_law 1790 = .ok (.invokevirtual 110, 3) := dk_182 0 110 (dk_at dksL_law_70 15 rfl rfl)
theorem dL_law_1793 : decode cL_law 1793 = .ok (.iload 6, 2) := dk_21 6 (dk_at dksL_law_70 18 rfl rfl)
theorem dL_law_1795 : decode cL_law 1795 = .ok (.if_icmp .eq 5, 3) := dk_159 0 5 (dk_at dksL_law_70 20 rfl rfl)
theorem dL_law_1798 : decode cL_law 1798 = .ok (.iconst 0, 1) := dk_3 (dk_at dksL_law_70 23 rfl rfl)
theorem dL_law_1799 : decode cL_law 1799 = .ok (.ireturn, 1) := dk_172 (dk_at dksL_law_71 0 rfl rfl)
theorem dL_law_1800 : decode cL_law 1800 = .ok (.iload 6, 2) := dk_21 6 (dk_at dksL_law_71 1 rfl rfl)
theorem dL_law_1802 : decode cL_law 1802 = .ok (.ifCond .ne 15, 3) := dk_154 0 15 (dk_at dksL_law_71 3 rfl rfl)
theorem dL_law_1805 : decode cL_law 1805 = .ok (.aload_n 3, 1) := dk_45 (dk_at dksL_law_71 6 rfl rfl)
theorem dL_law_1806 : decode cL_law 1806 = .ok (.iconst 0, 1) := dk_3 (dk_at dksL_law_71 7 rfl rfl)
theorem dL_law_1807 : decode cL_law 1807 = .ok (.laload, 1) := dk_47 (dk_at dksL_law_71 8 rfl rfl)
theorem dL_law_1808 : decode cL_law 1808 = .ok (.iload 7, 2) := dk_21 7 (dk_at dksL_law_71 9 rfl rfl)
theorem dL_law_1810 : decode cL_law 1810 = .ok (.i2l, 1) := dk_133 (dk_at dksL_law_71 11 rfl rfl)
theorem dL_law_1811 : decode cL_law 1811 = .ok (.lcmp, 1) := dk_148 (dk_at dksL_law_71 12 rfl rfl)
theorem dL_law_1812 : decode cL_law 1812 = .ok (.ifCond .eq 5, 3) := dk_153 0 5 (dk_at dksL_law_71 13 rfl rfl)
theorem dL_law_1815 : decode cL_law 1815 = .ok (.iconst 0, 1) := dk_3 (dk_at dksL_law_71 16 rfl rfl)
theorem dL_law_1816 : decode cL_law 1816 = .ok (.ireturn, 1) := dk_172 (dk_at dksL_law_71 17 rfl rfl)
theorem dL_law_1817 : decode cL_law 1817 = .ok (.goto 306, 3) := dk_167 1 50 (dk_at dksL_law_71 18 rfl rfl)
theorem dL_law_1820 : decode cL_law 1820 = .ok (.aload_n 1, 1) := dk_43 (dk_at dksL_law_71 21 rfl rfl)
theorem dL_law_1821 : decode cL_law 1821 = .ok (.aload_n 3, 1) := dk_45 (dk_at dksL_law_71 22 rfl rfl)
theorem dL_law_1822 : decode cL_law 1822 = .ok (.invokestatic 232, 3) := dk_184 0 232 (dk_at dksL_law_72 0 rfl rfl)
theorem dL_law_1825 : decode cL_law 1825 = .ok (.istore 6, 2) := dk_54 6 (dk_at dksL_law_72 3 rfl rfl)
theorem dL_law_1827 : decode cL_law 1827 = .ok (.aload_n 2, 1) := dk_44 (dk_at dksL_law_72 5 rfl rfl)
theorem dL_law_1828 : decode cL_law 1828 = .ok (.invokevirtual 234, 3) := dk_182 0 234 (dk_at dksL_law_72 6 rfl rfl)
theorem dL_law_1831 : decode cL_law 1831 = .ok (.istore 7, 2) := dk_54 7 (dk_at dksL_law_72 9 rfl rfl)
theorem dL_law_1833 : decode cL_law 1833 = .ok (.aload_n 2, 1) := dk_44 (dk_at dksL_law_72 11 rfl rfl)
theorem dL_law_1834 : decode cL_law 1834 = .ok (.invokevirtual 110, 3) := dk_182 0 110 (dk_at dksL_law_72 12 rfl rfl)
theorem dL_law_1837 : decode cL_law 1837 = .ok (.iload 6, 2) := dk_21 6 (dk_at dksL_law_72 15 rfl rfl)
theorem dL_law_1839 : decode cL_law 1839 = .ok (.if_icmp .eq 5, 3) := dk_159 0 5 (dk_at dksL_law_72 17 rfl rfl)
theorem dL_law_1842 : decode cL_law 1842 = .ok (.iconst 0, 1) := dk_3 (dk_at dksL_law_72 20 rfl rfl)
theorem dL_law_1843 : decode cL_law 1843 = .ok (.ireturn, 1) := dk_172 (dk_at dksL_law_72 21 rfl rfl)
theorem dL_law_1844 : decode cL_law 1844 = .ok (.iload 6, 2) := dk_21 6 (dk_at dksL_law_72 22 rfl rfl)
theorem dL_law_1846 : decode cL_law 1846 = .ok (.ifCond .ne 15, 3) := dk_154 0 15 (dk_at dksL_law_73 0 rfl rfl)
theorem dL_law_1849 : decode cL_law 1849 = .ok (.aload_n 3, 1) := dk_45 (dk_at dksL_law_73 3 rfl rfl)
theorem dL_law_1850 : decode cL_law 1850 = .ok (.iconst 0, 1) := dk_3 (dk_at dksL_law_73 4 rfl rfl)
theorem dL_law_1851 : decode cL_law 1851 = .ok (.laload, 1) := dk_47 (dk_at dksL_law_73 5 rfl rfl)
theorem dL_law_1852 : decode cL_law 1852 = .ok (.iload 7, 2) := dk_21 7 (dk_at dksL_law_73 6 rfl rfl)
theorem dL_law_1854 : decode cL_law 1854 = .ok (.i2l, 1) := dk_133 (dk_at dksL_law_73 8 rfl rfl)
theorem dL_law_1855 : decode cL_law 1855 = .ok (.lcmp, 1) := dk_148 (dk_at dksL_law_73 9 rfl rfl)
theorem dL_law_1856 : decode cL_law 1856 = .ok (.ifCond .eq 5, 3) := dk_153 0 5 (dk_at dksL_law_73 10 rfl rfl)
theorem dL_law_1859 : decode cL_law 1859 = .ok (.iconst 0, 1) := dk_3 (dk_at dksL_law_73 13 rfl rfl)
theorem dL_law_1860 : decode cL_law 1860 = .ok (.ireturn, 1) := dk_172 (dk_at dksL_law_73 14 rfl rfl)
theorem dL_law_1861 : decode cL_law 1861 = .ok (.goto 262, 3) := dk_167 1 6 (dk_at dksL_law_73 15 rfl rfl)
theorem dL_law_1864 : decode cL_law 1864 = .ok (.aload_n 1, 1) := dk_43 (dk_at dksL_law_73 18 rfl rfl)
theorem dL_law_1865 : decode cL_law 1865 = .ok (.aload_n 3, 1) := dk_45 (dk_at dksL_law_73 19 rfl rfl)
theorem dL_law_1866 : decode cL_law 1866 = .ok (.invokestatic 235, 3) := dk_184 0 235 (dk_at dksL_law_73 20 rfl rfl)
theorem dL_law_1869 : decode cL_law 1869 = .ok (.istore 6, 2) := dk_54 6 (dk_at dksL_law_74 0 rfl rfl)
theorem dL_law_1871 : decode cL_law 1871 = .ok (.aload_n 2, 1) := dk_44 (dk_at dksL_law_74 2 rfl rfl)
theorem dL_law_1872 : decode cL_law 1872 = .ok (.invokevirtual 237, 3) := dk_182 0 237 (dk_at dksL_law_74 3 rfl rfl)
theorem dL_law_1875 : decode cL_law 1875 = .ok (.istore 7, 2) := dk_54 7 (dk_at dksL_law_74 6 rfl rfl)
theorem dL_law_1877 : decode cL_law 1877 = .ok (.aload_n 2, 1) := dk_44 (dk_at dksL_law_74 8 rfl rfl)
theorem dL_law_1878 : decode cL_law 1878 = .ok (.invokevirtual 110, 3) := dk_182 0 110 (dk_at dksL_law_74 9 rfl rfl)
theorem dL_law_1881 : decode cL_law 1881 = .ok (.iload 6, 2) := dk_21 6 (dk_at dksL_law_74 12 rfl rfl)
theorem dL_law_1883 : decode cL_law 1883 = .ok (.if_icmp .eq 5, 3) := dk_159 0 5 (dk_at dksL_law_74 14 rfl rfl)
theorem dL_law_1886 : decode cL_law 1886 = .ok (.iconst 0, 1) := dk_3 (dk_at dksL_law_74 17 rfl rfl)
theorem dL_law_1887 : decode cL_law 1887 = .ok (.ireturn, 1) := dk_172 (dk_at dksL_law_74 18 rfl rfl)
theorem dL_law_1888 : decode cL_law 1888 = .ok (.iload 6, 2) := dk_21 6 (dk_at dksL_law_74 19 rfl rfl)
theorem dL_law_1890 : decode cL_law 1890 = .ok (.ifCond .ne 15, 3) := dk_154 0 15 (dk_at dksL_law_74 21 rfl rfl)
theorem dL_law_1893 : decode cL_law 1893 = .ok (.aload_n 3, 1) := dk_45 (dk_at dksL_law_75 0 rfl rfl)
theorem dL_law_1894 : decode cL_law 1894 = .ok (.iconst 0, 1) := dk_3 (dk_at dksL_law_75 1 rfl rfl)
theorem dL_law_1895 : decode cL_law 1895 = .ok (.laload, 1) := dk_47 (dk_at dksL_law_75 2 rfl rfl)
theorem dL_law_1896 : decode cL_law 1896 = .ok (.iload 7, 2) := dk_21 7 (dk_at dksL_law_75 3 rfl rfl)
theorem dL_law_1898 : decode cL_law 1898 = .ok (.i2l, 1) := dk_133 (dk_at dksL_law_75 5 rfl rfl)
theorem dL_law_1899 : decode cL_law 1899 = .ok (.lcmp, 1) := dk_148 (dk_at dksL_law_75 6 rfl rfl)
theorem dL_law_1900 : decode cL_law 1900 = .ok (.ifCond .eq 5, 3) := dk_153 0 5 (dk_at dksL_law_75 7 rfl rfl)
theorem dL_law_1903 : decode cL_law 1903 = .ok (.iconst 0, 1) := dk_3 (dk_at dksL_law_75 10 rfl rfl)
theorem dL_law_1904 : decode cL_law 1904 = .ok (.ireturn, 1) := dk_172 (dk_at dksL_law_75 11 rfl rfl)
theorem dL_law_1905 : decode cL_law 1905 = .ok (.goto 218, 3) := dk_167 0 218 (dk_at dksL_law_75 12 rfl rfl)
theorem dL_law_1908 : decode cL_law 1908 = .ok (.aload_n 1, 1) := dk_43 (dk_at dksL_law_75 15 rfl rfl)
theorem dL_law_1909 : decode cL_law 1909 = .ok (.aload_n 0, 1) := dk_42 (dk_at dksL_law_75 16 rfl rfl)
theorem dL_law_1910 : decode cL_law 1910 = .ok (.iload 5, 2) := dk_21 5 (dk_at dksL_law_75 17 rfl rfl)
theorem dL_law_1912 : decode cL_law 1912 = .ok (.iconst 1, 1) := dk_4 (dk_at dksL_law_75 19 rfl rfl)
theorem dL_law_1913 : decode cL_law 1913 = .ok (.iadd, 1) := dk_96 (dk_at dksL_law_75 20 rfl rfl)
theorem dL_law_1914 : decode cL_law 1914 = .ok (.iaload, 1) := dk_46 (dk_at dksL_law_75 21 rfl rfl)
theorem dL_law_1915 : decode cL_law 1915 = .ok (.aload_n 3, 1) := dk_45 (dk_at dksL_law_75 22 rfl rfl)
theorem dL_law_1916 : decode cL_law 1916 = .ok (.invokestatic 238, 3) := dk_184 0 238 (dk_at dksL_law_76 0 rfl rfl)
theorem dL_law_1919 : decode cL_law 1919 = .ok (.istore 6, 2) := dk_54 6 (dk_at dksL_law_76 3 rfl rfl)
theorem dL_law_1921 : decode cL_law 1921 = .ok (.aload_n 2, 1) := dk_44 (dk_at dksL_law_76 5 rfl rfl)
theorem dL_law_1922 : decode cL_law 1922 = .ok (.aload_n 0, 1) := dk_42 (dk_at dksL_law_76 6 rfl rfl)
theorem dL_law_1923 : decode cL_law 1923 = .ok (.iload 5, 2) := dk_21 5 (dk_at dksL_law_76 7 rfl rfl)
theorem dL_law_1925 : decode cL_law 1925 = .ok (.iconst 1, 1) := dk_4 (dk_at dksL_law_76 9 rfl rfl)
theorem dL_law_1926 : decode cL_law 1926 = .ok (.iadd, 1) := dk_96 (dk_at dksL_law_76 10 rfl rfl)
theorem dL_law_1927 : decode cL_law 1927 = .ok (.iaload, 1) := dk_46 (dk_at dksL_law_76 11 rfl rfl)
theorem dL_law_1928 : decode cL_law 1928 = .ok (.invokevirtual 240, 3) := dk_182 0 240 (dk_at dksL_law_76 12 rfl rfl)
theorem dL_law_1931 : decode cL_law 1931 = .ok (.istore 7, 2) := dk_54 7 (dk_at dksL_law_76 15 rfl rfl)
theorem dL_law_1933 : decode cL_law 1933 = .ok (.aload_n 2, 1) := dk_44 (dk_at dksL_law_76 17 rfl rfl)
theorem dL_law_1934 : decode cL_law 1934 = .ok (.invokevirtual 110, 3) := dk_182 0 110 (dk_at dksL_law_76 18 rfl rfl)
theorem dL_law_1937 : decode cL_law 1937 = .ok (.iload 6, 2) := dk_21 6 (dk_at dksL_law_76 21 rfl rfl)
theorem dL_law_1939 : decode cL_law 1939 = .ok (.if_icmp .eq 5, 3) := dk_159 0 5 (dk_at dksL_law_77 0 rfl rfl)
theorem dL_law_1942 : decode cL_law 1942 = .ok (.iconst 0, 1) := dk_3 (dk_at dksL_law_77 3 rfl rfl)
theorem dL_law_1943 : decode cL_law 1943 = .ok (.ireturn, 1) := dk_172 (dk_at dksL_law_77 4 rfl rfl)
theorem dL_law_1944 : decode cL_law 1944 = .ok (.iload 6, 2) := dk_21 6 (dk_at dksL_law_77 5 rfl rfl)
theorem dL_law_1946 : decode cL_law 1946 = .ok (.ifCond .ne 15, 3) := dk_154 0 15 (dk_at dksL_law_77 7 rfl rfl)
theorem dL_law_1949 : decode cL_law 1949 = .ok (.aload_n 3, 1) := dk_45 (dk_at dksL_law_77 10 rfl rfl)
theorem dL_law_1950 : decode cL_law 1950 = .ok (.iconst 0, 1) := dk_3 (dk_at dksL_law_77 11 rfl rfl)
theorem dL_law_1951 : decode cL_law 1951 = .ok (.laload, 1) := dk_47 (dk_at dksL_law_77 12 rfl rfl)
theorem dL_law_1952 : decode cL_law 1952 = .ok (.iload 7, 2) := dk_21 7 (dk_at dksL_law_77 13 rfl rfl)
theorem dL_law_1954 : decode cL_law 1954 = .ok (.i2l, 1) := dk_133 (dk_at dksL_law_77 15 rfl rfl)
theorem dL_law_1955 : decode cL_law 1955 = .ok (.lcmp, 1) := dk_148 (dk_at dksL_law_77 16 rfl rfl)
theorem dL_law_1956 : decode cL_law 1956 = .ok (.ifCond .eq 5, 3) := dk_153 0 5 (dk_at dksL_law_77 17 rfl rfl)
theorem dL_law_1959 : decode cL_law 1959 = .ok (.iconst 0, 1) := dk_3 (dk_at dksL_law_77 20 rfl rfl)
theorem dL_law_1960 : decode cL_law 1960 = .ok (.ireturn, 1) := dk_172 (dk_at dksL_law_77 21 rfl rfl)
theorem dL_law_1961 : decode cL_law 1961 = .ok (.goto 162, 3) := dk_167 0 162 (dk_at dksL_law_78 0 rfl rfl)
theorem dL_law_1964 : decode cL_law 1964 = .ok (.aload_n 1, 1) := dk_43 (dk_at dksL_law_78 3 rfl rfl)
theorem dL_law_1965 : decode cL_law 1965 = .ok (.invokevirtual 241, 3) := dk_182 0 241 (dk_at dksL_law_78 4 rfl rfl)
theorem dL_law_1968 : decode cL_law 1968 = .ok (.aload_n 2, 1) := dk_44 (dk_at dksL_law_78 7 rfl rfl)
theorem dL_law_1969 : decode cL_law 1969 = .ok (.invokevirtual 244, 3) := dk_182 0 244 (dk_at dksL_law_78 8 rfl rfl)
theorem dL_law_1972 : decode cL_law 1972 = .ok (.if_icmp .eq 151, 3) := dk_159 0 151 (dk_at dksL_law_78 11 rfl rfl)
theorem dL_law_1975 : decode cL_law 1975 = .ok (.iconst 0, 1) := dk_3 (dk_at dksL_law_78 14 rfl rfl)
theorem dL_law_1976 : decode cL_law 1976 = .ok (.ireturn, 1) := dk_172 (dk_at dksL_law_78 15 rfl rfl)
theorem dL_law_1977 : decode cL_law 1977 = .ok (.aload_n 1, 1) := dk_43 (dk_at dksL_law_78 16 rfl rfl)
theorem dL_law_1978 : decode cL_law 1978 = .ok (.invokevirtual 245, 3) := dk_182 0 245 (dk_at dksL_law_78 17 rfl rfl)
theorem dL_law_1981 : decode cL_law 1981 = .ok (.dstore 6, 2) := dk_57 6 (dk_at dksL_law_78 20 rfl rfl)
theorem dL_law_1983 : decode cL_law 1983 = .ok (.aload_n 2, 1) := dk_44 (dk_at dksL_law_78 22 rfl rfl)
theorem dL_law_1984 : decode cL_law 1984 = .ok (.invokevirtual 249, 3) := dk_182 0 249 (dk_at dksL_law_79 0 rfl rfl)
theorem dL_law_1987 : decode cL_law 1987 = .ok (.dstore 8, 2) := dk_57 8 (dk_at dksL_law_79 3 rfl rfl)
theorem dL_law_1989 : decode cL_law 1989 = .ok (.dload 6, 2) := dk_24 6 (dk_at dksL_law_79 5 rfl rfl)
theorem dL_law_1991 : decode cL_law 1991 = .ok (.dload 8, 2) := dk_24 8 (dk_at dksL_law_79 7 rfl rfl)
theorem dL_law_1993 : decode cL_law 1993 = .ok (.dcmp .l, 1) := dk_151 (dk_at dksL_law_79 9 rfl rfl)
theorem dL_law_1994 : decode cL_law 1994 = .ok (.ifCond .eq 21, 3) := dk_153 0 21 (dk_at dksL_law_79 10 rfl rfl)
theorem dL_law_1997 : decode cL_law 1997 = .ok (.dload 6, 2) := dk_24 6 (dk_at dksL_law_79 13 rfl rfl)
theorem dL_law_1999 : decode cL_law 1999 = .ok (.dload 6, 2) := dk_24 6 (dk_at dksL_law_79 15 rfl rfl)
theorem dL_law_2001 : decode cL_law 2001 = .ok (.dcmp .l, 1) := dk_151 (dk_at dksL_law_79 17 rfl rfl)
theorem dL_law_2002 : decode cL_law 2002 = .ok (.ifCond .eq 11, 3) := dk_153 0 11 (dk_at dksL_law_79 18 rfl rfl)
theorem dL_law_2005 : decode cL_law 2005 = .ok (.dload 8, 2) := dk_24 8 (dk_at dksL_law_79 21 rfl rfl)
theorem dL_law_2007 : decode cL_law 2007 = .ok (.dload 8, 2) := dk_24 8 (dk_at dksL_law_80 0 rfl rfl)
theorem dL_law_2009 : decode cL_law 2009 = .ok (.dcmp .l, 1) := dk_151 (dk_at dksL_law_80 2 rfl rfl)
theorem dL_law_2010 : decode cL_law 2010 = .ok (.ifCond .ne 5, 3) := dk_154 0 5 (dk_at dksL_law_80 3 rfl rfl)
theorem dL_law_2013 : decode cL_law 2013 = .ok (.iconst 0, 1) := dk_3 (dk_at dksL_law_80 6 rfl rfl)
theorem dL_law_2014 : decode cL_law 2014 = .ok (.ireturn, 1) := dk_172 (dk_at dksL_law_80 7 rfl rfl)
theorem dL_law_2015 : decode cL_law 2015 = .ok (.goto 108, 3) := dk_167 0 108 (dk_at dksL_law_80 8 rfl rfl)
theorem dL_law_2018 : decode cL_law 2018 = .ok (.aload_n 1, 1) := dk_43 (dk_at dksL_law_80 11 rfl rfl)
theorem dL_law_2019 : decode cL_law 2019 = .ok (.aload_n 0, 1) := dk_42 (dk_at dksL_law_80 12 rfl rfl)
theorem dL_law_2020 : decode cL_law 2020 = .ok (.iload 5, 2) := dk_21 5 (dk_at dksL_law_80 13 rfl rfl)
theorem dL_law_2022 : decode cL_law 2022 = .ok (.iconst 1, 1) := dk_4 (dk_at dksL_law_80 15 rfl rfl)
theorem dL_law_2023 : decode cL_law 2023 = .ok (.iadd, 1) := dk_96 (dk_at dksL_law_80 16 rfl rfl)
theorem dL_law_2024 : decode cL_law 2024 = .ok (.iaload, 1) := dk_46 (dk_at dksL_law_80 17 rfl rfl)
theorem dL_law_2025 : decode cL_law 2025 = .ok (.aload 4, 2) := dk_25 4 (dk_at dksL_law_80 18 rfl rfl)
theorem dL_law_2027 : decode cL_law 2027 = .ok (.invokestatic 250, 3) := dk_184 0 250 (dk_at dksL_law_80 20 rfl rfl)
theorem dL_law_2030 : decode cL_law 2030 = .ok (.istore 6, 2) := dk_54 6 (dk_at dksL_law_81 0 rfl rfl)
theorem dL_law_2032 : decode cL_law 2032 = .ok (.aload_n 2, 1) := dk_44 (dk_at dksL_law_81 2 rfl rfl)
theorem dL_law_2033 : decode cL_law 2033 = .ok (.aload_n 0, 1) := dk_42 (dk_at dksL_law_81 3 rfl rfl)
theorem dL_law_2034 : decode cL_law 2034 = .ok (.iload 5, 2) := dk_21 5 (dk_at dksL_law_81 4 rfl rfl)
theorem dL_law_2036 : decode cL_law 2036 = .ok (.iconst 1, 1) := dk_4 (dk_at dksL_law_81 6 rfl rfl)
theorem dL_law_2037 : decode cL_law 2037 = .ok (.iadd, 1) := dk_96 (dk_at dksL_law_81 7 rfl rfl)
theorem dL_law_2038 : decode cL_law 2038 = .ok (.iaload, 1) := dk_46 (dk_at dksL_law_81 8 rfl rfl)
theorem dL_law_2039 : decode cL_law 2039 = .ok (.invokevirtual 253, 3) := dk_182 0 253 (dk_at dksL_law_81 9 rfl rfl)
theorem dL_law_2042 : decode cL_law 2042 = .ok (.fstore 7, 2) := dk_56 7 (dk_at dksL_law_81 12 rfl rfl)
theorem dL_law_2044 : decode cL_law 2044 = .ok (.aload_n 2, 1) := dk_44 (dk_at dksL_law_81 14 rfl rfl)
theorem dL_law_2045 : decode cL_law 2045 = .ok (.invokevirtual 110, 3) := dk_182 0 110 (dk_at dksL_law_81 15 rfl rfl)
theorem dL_law_2048 : decode cL_law 2048 = .ok (.iload 6, 2) := dk_21 6 (dk_at dksL_law_81 18 rfl rfl)
theorem dL_law_2050 : decode cL_law 2050 = .ok (.if_icmp .eq 5, 3) := dk_159 0 5 (dk_at dksL_law_81 20 rfl rfl)
theorem dL_law_2053 : decode cL_law 2053 = .ok (.iconst 0, 1) := dk_3 (dk_at dksL_law_81 23 rfl rfl)
theorem dL_law_2054 : decode cL_law 2054 = .ok (.ireturn, 1) := dk_172 (dk_at dksL_law_82 0 rfl rfl)
theorem dL_law_2055 : decode cL_law 2055 = .ok (.iload 6, 2) := dk_21 6 (dk_at dksL_law_82 1 rfl rfl)
theorem dL_law_2057 : decode cL_law 2057 = .ok (.ifCond .ne 36, 3) := dk_154 0 36 (dk_at dksL_law_82 3 rfl rfl)
theorem dL_law_2060 : decode cL_law 2060 = .ok (.aload 4, 2) := dk_25 4 (dk_at dksL_law_82 6 rfl rfl)
theorem dL_law_2062 : decode cL_law 2062 = .ok (.iconst 0, 1) := dk_3 (dk_at dksL_law_82 8 rfl rfl)
theorem dL_law_2063 : decode cL_law 2063 = .ok (.daload, 1) := dk_49 (dk_at dksL_law_82 9 rfl rfl)
theorem dL_law_2064 : decode cL_law 2064 = .ok (.fload 7, 2) := dk_23 7 (dk_at dksL_law_82 10 rfl rfl)
theorem dL_law_2066 : decode cL_law 2066 = .ok (.f2d, 1) := dk_141 (dk_at dksL_law_82 12 rfl rfl)
theorem dL_law_2067 : decode cL_law 2067 = .ok (.dcmp .l, 1) := dk_151 (dk_at dksL_law_82 13 rfl rfl)
theorem dL_law_2068 : decode cL_law 2068 = .ok (.ifCond .eq 25, 3) := dk_153 0 25 (dk_at dksL_law_82 14 rfl rfl)
theorem dL_law_2071 : decode cL_law 2071 = .ok (.aload 4, 2) := dk_25 4 (dk_at dksL_law_82 17 rfl rfl)
theorem dL_law_2073 : decode cL_law 2073 = .ok (.iconst 0, 1) := dk_3 (dk_at dksL_law_82 19 rfl rfl)
theorem dL_law_2074 : decode cL_law 2074 = .ok (.daload, 1) := dk_49 (dk_at dksL_law_82 20 rfl rfl)
theorem dL_law_2075 : decode cL_law 2075 = .ok (.aload 4, 2) := dk_25 4 (dk_at dksL_law_82 21 rfl rfl)
theorem dL_law_2077 : decode cL_law 2077 = .ok (.iconst 0, 1) := dk_3 (dk_at dksL_law_82 23 rfl rfl)
theorem dL_law_2078 : decode cL_law 2078 = .ok (.daload, 1) := dk_49 (dk_at dksL_law_83 0 rfl rfl)
theorem dL_law_2079 : decode cL_law 2079 = .ok (.dcmp .l, 1) := dk_151 (dk_at dksL_law_83 1 rfl rfl)
theorem dL_law_2080 : decode cL_law 2080 = .ok (.ifCond .eq 11, 3) := dk_153 0 11 (dk_at dksL_law_83 2 rfl rfl)
theorem dL_law_2083 : decode cL_law 2083 = .ok (.fload 7, 2) := dk_23 7 (dk_at dksL_law_83 5 rfl rfl)
theorem dL_law_2085 : decode cL_law 2085 = .ok (.fload 7, 2) := dk_23 7 (dk_at dksL_law_83 7 rfl rfl)
theorem dL_law_2087 : decode cL_law 2087 = .ok (.fcmp .l, 1) := dk_149 (dk_at dksL_law_83 9 rfl rfl)
theorem dL_law_2088 : decode cL_law 2088 = .ok (.ifCond .ne 5, 3) := dk_154 0 5 (dk_at dksL_law_83 10 rfl rfl)
theorem dL_law_2091 : decode cL_law 2091 = .ok (.iconst 0, 1) := dk_3 (dk_at dksL_law_83 13 rfl rfl)
theorem dL_law_2092 : decode cL_law 2092 = .ok (.ireturn, 1) := dk_172 (dk_at dksL_law_83 14 rfl rfl)
theorem dL_law_2093 : decode cL_law 2093 = .ok (.goto 30, 3) := dk_167 0 30 (dk_at dksL_law_83 15 rfl rfl)
theorem dL_law_2096 : decode cL_law 2096 = .ok (.aload_n 1, 1) := dk_43 (dk_at dksL_law_83 18 rfl rfl)
theorem dL_law_2097 : decode cL_law 2097 = .ok (.invokevirtual 254, 3) := dk_182 0 254 (dk_at dksL_law_83 19 rfl rfl)
theorem dL_law_2100 : decode cL_law 2100 = .ok (.aload_n 2, 1) := dk_44 (dk_at dksL_law_83 22 rfl rfl)
theorem dL_law_2101 : decode cL_law 2101 = .ok (.invokevirtual 258, 3) := dk_182 1 2 (dk_at dksL_law_84 0 rfl rfl)
theorem dL_law_2104 : decode cL_law 2104 = .ok (.lcmp, 1) := dk_148 (dk_at dksL_law_84 3 rfl rfl)
theorem dL_law_2105 : decode cL_law 2105 = .ok (.ifCond .eq 18, 3) := dk_153 0 18 (dk_at dksL_law_84 4 rfl rfl)
theorem dL_law_2108 : decode cL_law 2108 = .ok (.iconst 0, 1) := dk_3 (dk_at dksL_law_84 7 rfl rfl)
theorem dL_law_2109 : decode cL_law 2109 = .ok (.ireturn, 1) := dk_172 (dk_at dksL_law_84 8 rfl rfl)
theorem dL_law_2110 : decode cL_law 2110 = .ok (.aload_n 1, 1) := dk_43 (dk_at dksL_law_84 9 rfl rfl)
theorem dL_law_2111 : decode cL_law 2111 = .ok (.invokevirtual 259, 3) := dk_182 1 3 (dk_at dksL_law_84 10 rfl rfl)
theorem dL_law_2114 : decode cL_law 2114 = .ok (.aload_n 2, 1) := dk_44 (dk_at dksL_law_84 13 rfl rfl)
theorem dL_law_2115 : decode cL_law 2115 = .ok (.invokevirtual 263, 3) := dk_182 1 7 (dk_at dksL_law_84 14 rfl rfl)
theorem dL_law_2118 : decode cL_law 2118 = .ok (.if_icmp .eq 5, 3) := dk_159 0 5 (dk_at dksL_law_84 17 rfl rfl)
theorem dL_law_2121 : decode cL_law 2121 = .ok (.iconst 0, 1) := dk_3 (dk_at dksL_law_84 20 rfl rfl)
theorem dL_law_2122 : decode cL_law 2122 = .ok (.ireturn, 1) := dk_172 (dk_at dksL_law_84 21 rfl rfl)
theorem dL_law_2123 : decode cL_law 2123 = .ok (.iinc 5 4, 3) := dk_132 5 4 (dk_at dksL_law_85 0 rfl rfl)
theorem dL_law_2126 : decode cL_law 2126 = .ok (.goto (-2098), 3) := dk_167 247 206 (dk_at dksL_law_85 3 rfl rfl)
theorem dL_law_2129 : decode cL_law 2129 = .ok (.iconst 1, 1) := dk_4 (dk_at dksL_law_85 6 rfl rfl)
theorem dL_law_2130 : decode cL_law 2130 = .ok (.ireturn, 1) := dk_172 (dk_at dksL_law_85 7 rfl rfl)

