/-! ChoreAssignmentModel -/
set_option maxRecDepth 100000
def RX4 : String := "ChoreAssignmentModel"
def TX4 : u_T := fun k => match k with
  | 0 => ("ChoreAssignmentModel", "n", "I", false)
  | 1 => ("ChoreAssignmentModel", "m", "I", false)
  | 2 => ("ChoreAssignmentModel", "savedN", "I", false)
  | 3 => ("ChoreAssignmentModel", "savedM", "I", false)
  | 4 => ("ChoreAssignmentModel", "thrown", "I", false)
  | 5 => ("ChoreAssignmentModel", "number", "[I", true)
  | 6 => ("ChoreAssignmentModel", "savedNumber", "[I", true)
  | 7 => ("ChoreAssignmentModel", "isForbidden", "[Z", true)
  | 8 => ("ChoreAssignmentModel", "savedForbidden", "[Z", true)
  | 9 => ("ChoreAssignmentModel", "costs", "[I", true)
  | 10 => ("ChoreAssignmentModel", "with", "[I", true)
  | 11 => ("ChoreAssignmentModel", "p", "[I", true)
  | 12 => ("ChoreAssignmentModel", "first", "[I", true)
  | 13 => ("ChoreAssignmentModel", "least", "I", false)
  | 14 => ("ChoreAssignmentModel", "leastMany", "I", false)
  | 15 => ("ChoreAssignmentModel", "second", "I", false)
  | 16 => ("ChoreAssignmentModel", "greatest", "I", false)
  | 17 => ("ChoreAssignmentModel", "narrowest", "I", false)
  | 18 => ("ChoreAssignmentModel", "steps", "I", false)
  | 19 => ("ChoreAssignmentModel", "lastSum", "I", false)
  | 20 => ("ChoreAssignmentModel", "lastPlace", "I", false)
  | 21 => ("ChoreAssignmentModel", "current", "[I", true)
  | 22 => ("ChoreAssignmentModel", "rowPotentials", "[I", true)
  | _ => ("ChoreAssignmentModel", "columnPotentials", "[I", true)
def tyX4 : Nat → FieldType := fun k => match k with
  | 0 => .int
  | 1 => .int
  | 2 => .int
  | 3 => .int
  | 4 => .int
  | 5 => .array .int
  | 6 => .array .int
  | 7 => .array .boolean
  | 8 => .array .boolean
  | 9 => .array .int
  | 10 => .array .int
  | 11 => .array .int
  | 12 => .array .int
  | 13 => .int
  | 14 => .int
  | 15 => .int
  | 16 => .int
  | 17 => .int
  | 18 => .int
  | 19 => .int
  | 20 => .int
  | 21 => .array .int
  | 22 => .array .int
  | _ => .array .int
abbrev wsX40 : List Cond := u_ws RX4 TX4 24
set_option maxRecDepth 100000 in
theorem nmX4 : ∀ a, a < 24 → ∀ b, b < 24 → a ≠ b → (TX4 a).2.1 ≠ (TX4 b).2.1 := by decide +kernel
set_option maxRecDepth 100000 in
theorem tyX4_ok : ∀ k, k < 24 → parseFieldDescriptor (TX4 k).2.2.1 = some (tyX4 k) := by decide +kernel
abbrev cX4_init : ByteArray := prog_7_method_1_code
def yX4_init : MethodName := ⟨RX4, "<init>", "()V"⟩
def dkwX4_init_4 : List UInt8 := [188, 10, 181, 0, 51, 42, 16, 7, 188, 10, 181, 0, 54, 42, 16, 7, 188, 10, 181, 0, 57, 177]
abbrev dktX4_init_4 : List UInt8 := dkwX4_init_4 ++ []
def dkwX4_init_3 : List UInt8 := [42, 16, 7, 188, 10, 181, 0, 42, 42, 16, 7, 188, 10, 181, 0, 45, 42, 2, 181, 0, 48, 42, 16, 7]
abbrev dktX4_init_3 : List UInt8 := dkwX4_init_3 ++ dktX4_init_4
def dkwX4_init_2 : List UInt8 := [42, 16, 49, 188, 4, 181, 0, 33, 42, 16, 49, 188, 10, 181, 0, 36, 42, 16, 49, 188, 10, 181, 0, 39]
abbrev dktX4_init_2 : List UInt8 := dkwX4_init_2 ++ dktX4_init_3
def dkwX4_init_1 : List UInt8 := [42, 16, 49, 188, 10, 181, 0, 22, 42, 16, 49, 188, 10, 181, 0, 26, 42, 16, 49, 188, 4, 181, 0, 29]
abbrev dktX4_init_1 : List UInt8 := dkwX4_init_1 ++ dktX4_init_2
def dkwX4_init_0 : List UInt8 := [42, 183, 0, 1, 42, 4, 181, 0, 7, 42, 4, 181, 0, 13, 42, 4, 181, 0, 16, 42, 4, 181, 0, 19]
abbrev dktX4_init_0 : List UInt8 := dkwX4_init_0 ++ dktX4_init_1
theorem dksX4_init_0 : cX4_init.data.toList.drop 0 = dktX4_init_0 := by decide +kernel
theorem dksX4_init_1 : cX4_init.data.toList.drop 24 = dktX4_init_1 := dk_seg dksX4_init_0 24 rfl rfl
theorem dksX4_init_2 : cX4_init.data.toList.drop 48 = dktX4_init_2 := dk_seg dksX4_init_1 24 rfl rfl
theorem dksX4_init_3 : cX4_init.data.toList.drop 72 = dktX4_init_3 := dk_seg dksX4_init_2 24 rfl rfl
theorem dksX4_init_4 : cX4_init.data.toList.drop 96 = dktX4_init_4 := dk_seg dksX4_init_3 24 rfl rfl
theorem dX4_init_0 : decode cX4_init 0 = .ok (.aload_n 0, 1) := dk_42 (dk_at dksX4_init_0 0 rfl rfl)
theorem dX4_init_1 : decode cX4_init 1 = .ok (.invokespecial 1, 3) := dk_183 0 1 (dk_at dksX4_init_0 1 rfl rfl)
theorem dX4_init_4 : decode cX4_init 4 = .ok (.aload_n 0, 1) := dk_42 (dk_at dksX4_init_0 4 rfl rfl)
theorem dX4_init_5 : decode cX4_init 5 = .ok (.iconst 1, 1) := dk_4 (dk_at dksX4_init_0 5 rfl rfl)
theorem dX4_init_6 : decode cX4_init 6 = .ok (.putfield 7, 3) := dk_181 0 7 (dk_at dksX4_init_0 6 rfl rfl)
theorem dX4_init_9 : decode cX4_init 9 = .ok (.aload_n 0, 1) := dk_42 (dk_at dksX4_init_0 9 rfl rfl)
theorem dX4_init_10 : decode cX4_init 10 = .ok (.iconst 1, 1) := dk_4 (dk_at dksX4_init_0 10 rfl rfl)
theorem dX4_init_11 : decode cX4_init 11 = .ok (.putfield 13, 3) := dk_181 0 13 (dk_at dksX4_init_0 11 rfl rfl)
theorem dX4_init_14 : decode cX4_init 14 = .ok (.aload_n 0, 1) := dk_42 (dk_at dksX4_init_0 14 rfl rfl)
theorem dX4_init_15 : decode cX4_init 15 = .ok (.iconst 1, 1) := dk_4 (dk_at dksX4_init_0 15 rfl rfl)
theorem dX4_init_16 : decode cX4_init 16 = .ok (.putfield 16, 3) := dk_181 0 16 (dk_at dksX4_init_0 16 rfl rfl)
theorem dX4_init_19 : decode cX4_init 19 = .ok (.aload_n 0, 1) := dk_42 (dk_at dksX4_init_0 19 rfl rfl)
theorem dX4_init_20 : decode cX4_init 20 = .ok (.iconst 1, 1) := dk_4 (dk_at dksX4_init_0 20 rfl rfl)
theorem dX4_init_21 : decode cX4_init 21 = .ok (.putfield 19, 3) := dk_181 0 19 (dk_at dksX4_init_0 21 rfl rfl)
theorem dX4_init_24 : decode cX4_init 24 = .ok (.aload_n 0, 1) := dk_42 (dk_at dksX4_init_1 0 rfl rfl)
theorem dX4_init_25 : decode cX4_init 25 = .ok (.bipush 49, 2) := dk_16 49 (dk_at dksX4_init_1 1 rfl rfl)
theorem dX4_init_27 : decode cX4_init 27 = .ok (.newarray .int, 2) := dk_188_10 (dk_at dksX4_init_1 3 rfl rfl)
theorem dX4_init_29 : decode cX4_init 29 = .ok (.putfield 22, 3) := dk_181 0 22 (dk_at dksX4_init_1 5 rfl rfl)
theorem dX4_init_32 : decode cX4_init 32 = .ok (.aload_n 0, 1) := dk_42 (dk_at dksX4_init_1 8 rfl rfl)
theorem dX4_init_33 : decode cX4_init 33 = .ok (.bipush 49, 2) := dk_16 49 (dk_at dksX4_init_1 9 rfl rfl)
theorem dX4_init_35 : decode cX4_init 35 = .ok (.newarray .int, 2) := dk_188_10 (dk_at dksX4_init_1 11 rfl rfl)
theorem dX4_init_37 : decode cX4_init 37 = .ok (.putfield 26, 3) := dk_181 0 26 (dk_at dksX4_init_1 13 rfl rfl)
theorem dX4_init_40 : decode cX4_init 40 = .ok (.aload_n 0, 1) := dk_42 (dk_at dksX4_init_1 16 rfl rfl)
theorem dX4_init_41 : decode cX4_init 41 = .ok (.bipush 49, 2) := dk_16 49 (dk_at dksX4_init_1 17 rfl rfl)
theorem dX4_init_43 : decode cX4_init 43 = .ok (.newarray .boolean, 2) := dk_188_4 (dk_at dksX4_init_1 19 rfl rfl)
theorem dX4_init_45 : decode cX4_init 45 = .ok (.putfield 29, 3) := dk_181 0 29 (dk_at dksX4_init_1 21 rfl rfl)
theorem dX4_init_48 : decode cX4_init 48 = .ok (.aload_n 0, 1) := dk_42 (dk_at dksX4_init_2 0 rfl rfl)
theorem dX4_init_49 : decode cX4_init 49 = .ok (.bipush 49, 2) := dk_16 49 (dk_at dksX4_init_2 1 rfl rfl)
theorem dX4_init_51 : decode cX4_init 51 = .ok (.newarray .boolean, 2) := dk_188_4 (dk_at dksX4_init_2 3 rfl rfl)
theorem dX4_init_53 : decode cX4_init 53 = .ok (.putfield 33, 3) := dk_181 0 33 (dk_at dksX4_init_2 5 rfl rfl)
theorem dX4_init_56 : decode cX4_init 56 = .ok (.aload_n 0, 1) := dk_42 (dk_at dksX4_init_2 8 rfl rfl)
theorem dX4_init_57 : decode cX4_init 57 = .ok (.bipush 49, 2) := dk_16 49 (dk_at dksX4_init_2 9 rfl rfl)
theorem dX4_init_59 : decode cX4_init 59 = .ok (.newarray .int, 2) := dk_188_10 (dk_at dksX4_init_2 11 rfl rfl)
theorem dX4_init_61 : decode cX4_init 61 = .ok (.putfield 36, 3) := dk_181 0 36 (dk_at dksX4_init_2 13 rfl rfl)
theorem dX4_init_64 : decode cX4_init 64 = .ok (.aload_n 0, 1) := dk_42 (dk_at dksX4_init_2 16 rfl rfl)
theorem dX4_init_65 : decode cX4_init 65 = .ok (.bipush 49, 2) := dk_16 49 (dk_at dksX4_init_2 17 rfl rfl)
theorem dX4_init_67 : decode cX4_init 67 = .ok (.newarray .int, 2) := dk_188_10 (dk_at dksX4_init_2 19 rfl rfl)
theorem dX4_init_69 : decode cX4_init 69 = .ok (.putfield 39, 3) := dk_181 0 39 (dk_at dksX4_init_2 21 rfl rfl)
theorem dX4_init_72 : decode cX4_init 72 = .ok (.aload_n 0, 1) := dk_42 (dk_at dksX4_init_3 0 rfl rfl)
theorem dX4_init_73 : decode cX4_init 73 = .ok (.bipush 7, 2) := dk_16 7 (dk_at dksX4_init_3 1 rfl rfl)
theorem dX4_init_75 : decode cX4_init 75 = .ok (.newarray .int, 2) := dk_188_10 (dk_at dksX4_init_3 3 rfl rfl)
theorem dX4_init_77 : decode cX4_init 77 = .ok (.putfield 42, 3) := dk_181 0 42 (dk_at dksX4_init_3 5 rfl rfl)
theorem dX4_init_80 : decode cX4_init 80 = .ok (.aload_n 0, 1) := dk_42 (dk_at dksX4_init_3 8 rfl rfl)
theorem dX4_init_81 : decode cX4_init 81 = .ok (.bipush 7, 2) := dk_16 7 (dk_at dksX4_init_3 9 rfl rfl)
theorem dX4_init_83 : decode cX4_init 83 = .ok (.newarray .int, 2) := dk_188_10 (dk_at dksX4_init_3 11 rfl rfl)
theorem dX4_init_85 : decode cX4_init 85 = .ok (.putfield 45, 3) := dk_181 0 45 (dk_at dksX4_init_3 13 rfl rfl)
theorem dX4_init_88 : decode cX4_init 88 = .ok (.aload_n 0, 1) := dk_42 (dk_at dksX4_init_3 16 rfl rfl)
theorem dX4_init_89 : decode cX4_init 89 = .ok (.iconst (-1), 1) := dk_2 (dk_at dksX4_init_3 17 rfl rfl)
theorem dX4_init_90 : decode cX4_init 90 = .ok (.putfield 48, 3) := dk_181 0 48 (dk_at dksX4_init_3 18 rfl rfl)
theorem dX4_init_93 : decode cX4_init 93 = .ok (.aload_n 0, 1) := dk_42 (dk_at dksX4_init_3 21 rfl rfl)
theorem dX4_init_94 : decode cX4_init 94 = .ok (.bipush 7, 2) := dk_16 7 (dk_at dksX4_init_3 22 rfl rfl)
theorem dX4_init_96 : decode cX4_init 96 = .ok (.newarray .int, 2) := dk_188_10 (dk_at dksX4_init_4 0 rfl rfl)
theorem dX4_init_98 : decode cX4_init 98 = .ok (.putfield 51, 3) := dk_181 0 51 (dk_at dksX4_init_4 2 rfl rfl)
theorem dX4_init_101 : decode cX4_init 101 = .ok (.aload_n 0, 1) := dk_42 (dk_at dksX4_init_4 5 rfl rfl)
theorem dX4_init_102 : decode cX4_init 102 = .ok (.bipush 7, 2) := dk_16 7 (dk_at dksX4_init_4 6 rfl rfl)
theorem dX4_init_104 : decode cX4_init 104 = .ok (.newarray .int, 2) := dk_188_10 (dk_at dksX4_init_4 8 rfl rfl)
theorem dX4_init_106 : decode cX4_init 106 = .ok (.putfield 54, 3) := dk_181 0 54 (dk_at dksX4_init_4 10 rfl rfl)
theorem dX4_init_109 : decode cX4_init 109 = .ok (.aload_n 0, 1) := dk_42 (dk_at dksX4_init_4 13 rfl rfl)
theorem dX4_init_110 : decode cX4_init 110 = .ok (.bipush 7, 2) := dk_16 7 (dk_at dksX4_init_4 14 rfl rfl)
theorem dX4_init_112 : decode cX4_init 112 = .ok (.newarray .int, 2) := dk_188_10 (dk_at dksX4_init_4 16 rfl rfl)
theorem dX4_init_114 : decode cX4_init 114 = .ok (.putfield 57, 3) := dk_181 0 57 (dk_at dksX4_init_4 18 rfl rfl)
theorem dX4_init_117 : decode cX4_init 117 = .ok (.return_, 1) := dk_177 (dk_at dksX4_init_4 21 rfl rfl)
abbrev cX4_thrown : ByteArray := prog_7_method_2_code
def yX4_thrown : MethodName := ⟨RX4, "thrown", "()I"⟩
theorem dX4_thrown_0 : decode cX4_thrown 0 = .ok (.aload_n 0, 1) := by decide +kernel
theorem dX4_thrown_1 : decode cX4_thrown 1 = .ok (.getfield 60, 3) := by decide +kernel
theorem dX4_thrown_4 : decode cX4_thrown 4 = .ok (.ireturn, 1) := by decide +kernel
abbrev cX4_resize : ByteArray := prog_7_method_21_code
def yX4_resize : MethodName := ⟨RX4, "resize", "(II)I"⟩
def dkwX4_resize_3 : List UInt8 := [167, 255, 233, 42, 2, 181, 0, 48, 42, 180, 0, 7, 42, 180, 0, 13, 104, 172]
abbrev dktX4_resize_3 : List UInt8 := dkwX4_resize_3 ++ []
def dkwX4_resize_2 : List UInt8 := [62, 29, 16, 49, 162, 0, 23, 42, 180, 0, 22, 29, 3, 79, 42, 180, 0, 29, 29, 3, 84, 132, 3, 1]
abbrev dktX4_resize_2 : List UInt8 := dkwX4_resize_2 ++ dktX4_resize_3
def dkwX4_resize_1 : List UInt8 := [4, 167, 0, 4, 3, 182, 0, 118, 153, 0, 5, 3, 172, 42, 27, 181, 0, 7, 42, 28, 181, 0, 13, 3]
abbrev dktX4_resize_1 : List UInt8 := dkwX4_resize_1 ++ dktX4_resize_2
def dkwX4_resize_0 : List UInt8 := [42, 27, 133, 10, 20, 0, 116, 184, 0, 63, 153, 0, 14, 28, 133, 10, 27, 133, 184, 0, 63, 154, 0, 7]
abbrev dktX4_resize_0 : List UInt8 := dkwX4_resize_0 ++ dktX4_resize_1
theorem dksX4_resize_0 : cX4_resize.data.toList.drop 0 = dktX4_resize_0 := by decide +kernel
theorem dksX4_resize_1 : cX4_resize.data.toList.drop 24 = dktX4_resize_1 := dk_seg dksX4_resize_0 24 rfl rfl
theorem dksX4_resize_2 : cX4_resize.data.toList.drop 48 = dktX4_resize_2 := dk_seg dksX4_resize_1 24 rfl rfl
theorem dksX4_resize_3 : cX4_resize.data.toList.drop 72 = dktX4_resize_3 := dk_seg dksX4_resize_2 24 rfl rfl
theorem dX4_resize_0 : decode cX4_resize 0 = .ok (.aload_n 0, 1) := dk_42 (dk_at dksX4_resize_0 0 rfl rfl)
theorem dX4_resize_1 : decode cX4_resize 1 = .ok (.iload_n 1, 1) := dk_27 (dk_at dksX4_resize_0 1 rfl rfl)
theorem dX4_resize_2 : decode cX4_resize 2 = .ok (.i2l, 1) := dk_133 (dk_at dksX4_resize_0 2 rfl rfl)
theorem dX4_resize_3 : decode cX4_resize 3 = .ok (.lconst 1, 1) := dk_10 (dk_at dksX4_resize_0 3 rfl rfl)
theorem dX4_resize_4 : decode cX4_resize 4 = .ok (.ldc2_w 116, 3) := dk_20 0 116 (dk_at dksX4_resize_0 4 rfl rfl)
theorem dX4_resize_7 : decode cX4_resize 7 = .ok (.invokestatic 63, 3) := dk_184 0 63 (dk_at dksX4_resize_0 7 rfl rfl)
theorem dX4_resize_10 : decode cX4_resize 10 = .ok (.ifCond .eq 14, 3) := dk_153 0 14 (dk_at dksX4_resize_0 10 rfl rfl)
theorem dX4_resize_13 : decode cX4_resize 13 = .ok (.iload_n 2, 1) := dk_28 (dk_at dksX4_resize_0 13 rfl rfl)
theorem dX4_resize_14 : decode cX4_resize 14 = .ok (.i2l, 1) := dk_133 (dk_at dksX4_resize_0 14 rfl rfl)
theorem dX4_resize_15 : decode cX4_resize 15 = .ok (.lconst 1, 1) := dk_10 (dk_at dksX4_resize_0 15 rfl rfl)
theorem dX4_resize_16 : decode cX4_resize 16 = .ok (.iload_n 1, 1) := dk_27 (dk_at dksX4_resize_0 16 rfl rfl)
theorem dX4_resize_17 : decode cX4_resize 17 = .ok (.i2l, 1) := dk_133 (dk_at dksX4_resize_0 17 rfl rfl)
theorem dX4_resize_18 : decode cX4_resize 18 = .ok (.invokestatic 63, 3) := dk_184 0 63 (dk_at dksX4_resize_0 18 rfl rfl)
theorem dX4_resize_21 : decode cX4_resize 21 = .ok (.ifCond .ne 7, 3) := dk_154 0 7 (dk_at dksX4_resize_0 21 rfl rfl)
theorem dX4_resize_24 : decode cX4_resize 24 = .ok (.iconst 1, 1) := dk_4 (dk_at dksX4_resize_1 0 rfl rfl)
theorem dX4_resize_25 : decode cX4_resize 25 = .ok (.goto 4, 3) := dk_167 0 4 (dk_at dksX4_resize_1 1 rfl rfl)
theorem dX4_resize_28 : decode cX4_resize 28 = .ok (.iconst 0, 1) := dk_3 (dk_at dksX4_resize_1 4 rfl rfl)
theorem dX4_resize_29 : decode cX4_resize 29 = .ok (.invokevirtual 118, 3) := dk_182 0 118 (dk_at dksX4_resize_1 5 rfl rfl)
theorem dX4_resize_32 : decode cX4_resize 32 = .ok (.ifCond .eq 5, 3) := dk_153 0 5 (dk_at dksX4_resize_1 8 rfl rfl)
theorem dX4_resize_35 : decode cX4_resize 35 = .ok (.iconst 0, 1) := dk_3 (dk_at dksX4_resize_1 11 rfl rfl)
theorem dX4_resize_36 : decode cX4_resize 36 = .ok (.ireturn, 1) := dk_172 (dk_at dksX4_resize_1 12 rfl rfl)
theorem dX4_resize_37 : decode cX4_resize 37 = .ok (.aload_n 0, 1) := dk_42 (dk_at dksX4_resize_1 13 rfl rfl)
theorem dX4_resize_38 : decode cX4_resize 38 = .ok (.iload_n 1, 1) := dk_27 (dk_at dksX4_resize_1 14 rfl rfl)
theorem dX4_resize_39 : decode cX4_resize 39 = .ok (.putfield 7, 3) := dk_181 0 7 (dk_at dksX4_resize_1 15 rfl rfl)
theorem dX4_resize_42 : decode cX4_resize 42 = .ok (.aload_n 0, 1) := dk_42 (dk_at dksX4_resize_1 18 rfl rfl)
theorem dX4_resize_43 : decode cX4_resize 43 = .ok (.iload_n 2, 1) := dk_28 (dk_at dksX4_resize_1 19 rfl rfl)
theorem dX4_resize_44 : decode cX4_resize 44 = .ok (.putfield 13, 3) := dk_181 0 13 (dk_at dksX4_resize_1 20 rfl rfl)
theorem dX4_resize_47 : decode cX4_resize 47 = .ok (.iconst 0, 1) := dk_3 (dk_at dksX4_resize_1 23 rfl rfl)
theorem dX4_resize_48 : decode cX4_resize 48 = .ok (.istore_n 3, 1) := dk_62 (dk_at dksX4_resize_2 0 rfl rfl)
theorem dX4_resize_49 : decode cX4_resize 49 = .ok (.iload_n 3, 1) := dk_29 (dk_at dksX4_resize_2 1 rfl rfl)
theorem dX4_resize_50 : decode cX4_resize 50 = .ok (.bipush 49, 2) := dk_16 49 (dk_at dksX4_resize_2 2 rfl rfl)
theorem dX4_resize_52 : decode cX4_resize 52 = .ok (.if_icmp .ge 23, 3) := dk_162 0 23 (dk_at dksX4_resize_2 4 rfl rfl)
theorem dX4_resize_55 : decode cX4_resize 55 = .ok (.aload_n 0, 1) := dk_42 (dk_at dksX4_resize_2 7 rfl rfl)
theorem dX4_resize_56 : decode cX4_resize 56 = .ok (.getfield 22, 3) := dk_180 0 22 (dk_at dksX4_resize_2 8 rfl rfl)
theorem dX4_resize_59 : decode cX4_resize 59 = .ok (.iload_n 3, 1) := dk_29 (dk_at dksX4_resize_2 11 rfl rfl)
theorem dX4_resize_60 : decode cX4_resize 60 = .ok (.iconst 0, 1) := dk_3 (dk_at dksX4_resize_2 12 rfl rfl)
theorem dX4_resize_61 : decode cX4_resize 61 = .ok (.iastore, 1) := dk_79 (dk_at dksX4_resize_2 13 rfl rfl)
theorem dX4_resize_62 : decode cX4_resize 62 = .ok (.aload_n 0, 1) := dk_42 (dk_at dksX4_resize_2 14 rfl rfl)
theorem dX4_resize_63 : decode cX4_resize 63 = .ok (.getfield 29, 3) := dk_180 0 29 (dk_at dksX4_resize_2 15 rfl rfl)
theorem dX4_resize_66 : decode cX4_resize 66 = .ok (.iload_n 3, 1) := dk_29 (dk_at dksX4_resize_2 18 rfl rfl)
theorem dX4_resize_67 : decode cX4_resize 67 = .ok (.iconst 0, 1) := dk_3 (dk_at dksX4_resize_2 19 rfl rfl)
theorem dX4_resize_68 : decode cX4_resize 68 = .ok (.bastore, 1) := dk_84 (dk_at dksX4_resize_2 20 rfl rfl)
theorem dX4_resize_69 : decode cX4_resize 69 = .ok (.iinc 3 1, 3) := dk_132 3 1 (dk_at dksX4_resize_2 21 rfl rfl)
theorem dX4_resize_72 : decode cX4_resize 72 = .ok (.goto (-23), 3) := dk_167 255 233 (dk_at dksX4_resize_3 0 rfl rfl)
theorem dX4_resize_75 : decode cX4_resize 75 = .ok (.aload_n 0, 1) := dk_42 (dk_at dksX4_resize_3 3 rfl rfl)
theorem dX4_resize_76 : decode cX4_resize 76 = .ok (.iconst (-1), 1) := dk_2 (dk_at dksX4_resize_3 4 rfl rfl)
theorem dX4_resize_77 : decode cX4_resize 77 = .ok (.putfield 48, 3) := dk_181 0 48 (dk_at dksX4_resize_3 5 rfl rfl)
theorem dX4_resize_80 : decode cX4_resize 80 = .ok (.aload_n 0, 1) := dk_42 (dk_at dksX4_resize_3 8 rfl rfl)
theorem dX4_resize_81 : decode cX4_resize 81 = .ok (.getfield 7, 3) := dk_180 0 7 (dk_at dksX4_resize_3 9 rfl rfl)
theorem dX4_resize_84 : decode cX4_resize 84 = .ok (.aload_n 0, 1) := dk_42 (dk_at dksX4_resize_3 12 rfl rfl)
theorem dX4_resize_85 : decode cX4_resize 85 = .ok (.getfield 13, 3) := dk_180 0 13 (dk_at dksX4_resize_3 13 rfl rfl)
theorem dX4_resize_88 : decode cX4_resize 88 = .ok (.imul, 1) := dk_104 (dk_at dksX4_resize_3 16 rfl rfl)
theorem dX4_resize_89 : decode cX4_resize 89 = .ok (.ireturn, 1) := dk_172 (dk_at dksX4_resize_3 17 rfl rfl)
abbrev cX4_isIn : ByteArray := prog_7_method_4_code
def yX4_isIn : MethodName := ⟨RX4, "isIn", "(JJJ)Z"⟩
def dkwX4_isIn_0 : List UInt8 := [30, 32, 148, 155, 0, 14, 30, 22, 4, 148, 157, 0, 7, 4, 167, 0, 4, 3, 172]
abbrev dktX4_isIn_0 : List UInt8 := dkwX4_isIn_0 ++ []
theorem dksX4_isIn_0 : cX4_isIn.data.toList.drop 0 = dktX4_isIn_0 := by decide +kernel
theorem dX4_isIn_0 : decode cX4_isIn 0 = .ok (.lload_n 0, 1) := dk_30 (dk_at dksX4_isIn_0 0 rfl rfl)
theorem dX4_isIn_1 : decode cX4_isIn 1 = .ok (.lload_n 2, 1) := dk_32 (dk_at dksX4_isIn_0 1 rfl rfl)
theorem dX4_isIn_2 : decode cX4_isIn 2 = .ok (.lcmp, 1) := dk_148 (dk_at dksX4_isIn_0 2 rfl rfl)
theorem dX4_isIn_3 : decode cX4_isIn 3 = .ok (.ifCond .lt 14, 3) := dk_155 0 14 (dk_at dksX4_isIn_0 3 rfl rfl)
theorem dX4_isIn_6 : decode cX4_isIn 6 = .ok (.lload_n 0, 1) := dk_30 (dk_at dksX4_isIn_0 6 rfl rfl)
theorem dX4_isIn_7 : decode cX4_isIn 7 = .ok (.lload 4, 2) := dk_22 4 (dk_at dksX4_isIn_0 7 rfl rfl)
theorem dX4_isIn_9 : decode cX4_isIn 9 = .ok (.lcmp, 1) := dk_148 (dk_at dksX4_isIn_0 9 rfl rfl)
theorem dX4_isIn_10 : decode cX4_isIn 10 = .ok (.ifCond .gt 7, 3) := dk_157 0 7 (dk_at dksX4_isIn_0 10 rfl rfl)
theorem dX4_isIn_13 : decode cX4_isIn 13 = .ok (.iconst 1, 1) := dk_4 (dk_at dksX4_isIn_0 13 rfl rfl)
theorem dX4_isIn_14 : decode cX4_isIn 14 = .ok (.goto 4, 3) := dk_167 0 4 (dk_at dksX4_isIn_0 14 rfl rfl)
theorem dX4_isIn_17 : decode cX4_isIn 17 = .ok (.iconst 0, 1) := dk_3 (dk_at dksX4_isIn_0 17 rfl rfl)
theorem dX4_isIn_18 : decode cX4_isIn 18 = .ok (.ireturn, 1) := dk_172 (dk_at dksX4_isIn_0 18 rfl rfl)
abbrev cX4_isWrong : ByteArray := prog_7_method_3_code
def yX4_isWrong : MethodName := ⟨RX4, "isWrong", "(I)Z"⟩
def dkwX4_isWrong_0 : List UInt8 := [42, 27, 181, 0, 60, 27, 153, 0, 7, 4, 167, 0, 4, 3, 172]
abbrev dktX4_isWrong_0 : List UInt8 := dkwX4_isWrong_0 ++ []
theorem dksX4_isWrong_0 : cX4_isWrong.data.toList.drop 0 = dktX4_isWrong_0 := by decide +kernel
theorem dX4_isWrong_0 : decode cX4_isWrong 0 = .ok (.aload_n 0, 1) := dk_42 (dk_at dksX4_isWrong_0 0 rfl rfl)
theorem dX4_isWrong_1 : decode cX4_isWrong 1 = .ok (.iload_n 1, 1) := dk_27 (dk_at dksX4_isWrong_0 1 rfl rfl)
theorem dX4_isWrong_2 : decode cX4_isWrong 2 = .ok (.putfield 60, 3) := dk_181 0 60 (dk_at dksX4_isWrong_0 2 rfl rfl)
theorem dX4_isWrong_5 : decode cX4_isWrong 5 = .ok (.iload_n 1, 1) := dk_27 (dk_at dksX4_isWrong_0 5 rfl rfl)
theorem dX4_isWrong_6 : decode cX4_isWrong 6 = .ok (.ifCond .eq 7, 3) := dk_153 0 7 (dk_at dksX4_isWrong_0 6 rfl rfl)
theorem dX4_isWrong_9 : decode cX4_isWrong 9 = .ok (.iconst 1, 1) := dk_4 (dk_at dksX4_isWrong_0 9 rfl rfl)
theorem dX4_isWrong_10 : decode cX4_isWrong 10 = .ok (.goto 4, 3) := dk_167 0 4 (dk_at dksX4_isWrong_0 10 rfl rfl)
theorem dX4_isWrong_13 : decode cX4_isWrong 13 = .ok (.iconst 0, 1) := dk_3 (dk_at dksX4_isWrong_0 13 rfl rfl)
theorem dX4_isWrong_14 : decode cX4_isWrong 14 = .ok (.ireturn, 1) := dk_172 (dk_at dksX4_isWrong_0 14 rfl rfl)
abbrev cX4_setCost : ByteArray := prog_7_method_22_code
def yX4_setCost : MethodName := ⟨RX4, "setCost", "(III)I"⟩
def dkwX4_setCost_3 : List UInt8 := [42, 2, 181, 0, 48, 21, 4, 172]
abbrev dktX4_setCost_3 : List UInt8 := dkwX4_setCost_3 ++ []
def dkwX4_setCost_2 : List UInt8 := [180, 0, 22, 16, 7, 27, 104, 28, 96, 46, 54, 4, 42, 180, 0, 22, 16, 7, 27, 104, 28, 96, 29, 79]
abbrev dktX4_setCost_2 : List UInt8 := dkwX4_setCost_2 ++ dktX4_setCost_3
def dkwX4_setCost_1 : List UInt8 := [20, 0, 128, 184, 0, 63, 154, 0, 7, 5, 167, 0, 4, 3, 182, 0, 118, 153, 0, 5, 3, 172, 42]
abbrev dktX4_setCost_1 : List UInt8 := dkwX4_setCost_1 ++ dktX4_setCost_2
def dkwX4_setCost_0 : List UInt8 := [42, 42, 27, 182, 0, 122, 153, 0, 11, 42, 28, 182, 0, 125, 154, 0, 7, 4, 167, 0, 20, 29, 133, 9]
abbrev dktX4_setCost_0 : List UInt8 := dkwX4_setCost_0 ++ dktX4_setCost_1
theorem dksX4_setCost_0 : cX4_setCost.data.toList.drop 0 = dktX4_setCost_0 := by decide +kernel
theorem dksX4_setCost_1 : cX4_setCost.data.toList.drop 24 = dktX4_setCost_1 := dk_seg dksX4_setCost_0 24 rfl rfl
theorem dksX4_setCost_2 : cX4_setCost.data.toList.drop 47 = dktX4_setCost_2 := dk_seg dksX4_setCost_1 23 rfl rfl
theorem dksX4_setCost_3 : cX4_setCost.data.toList.drop 71 = dktX4_setCost_3 := dk_seg dksX4_setCost_2 24 rfl rfl
theorem dX4_setCost_0 : decode cX4_setCost 0 = .ok (.aload_n 0, 1) := dk_42 (dk_at dksX4_setCost_0 0 rfl rfl)
theorem dX4_setCost_1 : decode cX4_setCost 1 = .ok (.aload_n 0, 1) := dk_42 (dk_at dksX4_setCost_0 1 rfl rfl)
theorem dX4_setCost_2 : decode cX4_setCost 2 = .ok (.iload_n 1, 1) := dk_27 (dk_at dksX4_setCost_0 2 rfl rfl)
theorem dX4_setCost_3 : decode cX4_setCost 3 = .ok (.invokevirtual 122, 3) := dk_182 0 122 (dk_at dksX4_setCost_0 3 rfl rfl)
theorem dX4_setCost_6 : decode cX4_setCost 6 = .ok (.ifCond .eq 11, 3) := dk_153 0 11 (dk_at dksX4_setCost_0 6 rfl rfl)
theorem dX4_setCost_9 : decode cX4_setCost 9 = .ok (.aload_n 0, 1) := dk_42 (dk_at dksX4_setCost_0 9 rfl rfl)
theorem dX4_setCost_10 : decode cX4_setCost 10 = .ok (.iload_n 2, 1) := dk_28 (dk_at dksX4_setCost_0 10 rfl rfl)
theorem dX4_setCost_11 : decode cX4_setCost 11 = .ok (.invokevirtual 125, 3) := dk_182 0 125 (dk_at dksX4_setCost_0 11 rfl rfl)
theorem dX4_setCost_14 : decode cX4_setCost 14 = .ok (.ifCond .ne 7, 3) := dk_154 0 7 (dk_at dksX4_setCost_0 14 rfl rfl)
theorem dX4_setCost_17 : decode cX4_setCost 17 = .ok (.iconst 1, 1) := dk_4 (dk_at dksX4_setCost_0 17 rfl rfl)
theorem dX4_setCost_18 : decode cX4_setCost 18 = .ok (.goto 20, 3) := dk_167 0 20 (dk_at dksX4_setCost_0 18 rfl rfl)
theorem dX4_setCost_21 : decode cX4_setCost 21 = .ok (.iload_n 3, 1) := dk_29 (dk_at dksX4_setCost_0 21 rfl rfl)
theorem dX4_setCost_22 : decode cX4_setCost 22 = .ok (.i2l, 1) := dk_133 (dk_at dksX4_setCost_0 22 rfl rfl)
theorem dX4_setCost_23 : decode cX4_setCost 23 = .ok (.lconst 0, 1) := dk_9 (dk_at dksX4_setCost_0 23 rfl rfl)
theorem dX4_setCost_24 : decode cX4_setCost 24 = .ok (.ldc2_w 128, 3) := dk_20 0 128 (dk_at dksX4_setCost_1 0 rfl rfl)
theorem dX4_setCost_27 : decode cX4_setCost 27 = .ok (.invokestatic 63, 3) := dk_184 0 63 (dk_at dksX4_setCost_1 3 rfl rfl)
theorem dX4_setCost_30 : decode cX4_setCost 30 = .ok (.ifCond .ne 7, 3) := dk_154 0 7 (dk_at dksX4_setCost_1 6 rfl rfl)
theorem dX4_setCost_33 : decode cX4_setCost 33 = .ok (.iconst 2, 1) := dk_5 (dk_at dksX4_setCost_1 9 rfl rfl)
theorem dX4_setCost_34 : decode cX4_setCost 34 = .ok (.goto 4, 3) := dk_167 0 4 (dk_at dksX4_setCost_1 10 rfl rfl)
theorem dX4_setCost_37 : decode cX4_setCost 37 = .ok (.iconst 0, 1) := dk_3 (dk_at dksX4_setCost_1 13 rfl rfl)
theorem dX4_setCost_38 : decode cX4_setCost 38 = .ok (.invokevirtual 118, 3) := dk_182 0 118 (dk_at dksX4_setCost_1 14 rfl rfl)
theorem dX4_setCost_41 : decode cX4_setCost 41 = .ok (.ifCond .eq 5, 3) := dk_153 0 5 (dk_at dksX4_setCost_1 17 rfl rfl)
theorem dX4_setCost_44 : decode cX4_setCost 44 = .ok (.iconst 0, 1) := dk_3 (dk_at dksX4_setCost_1 20 rfl rfl)
theorem dX4_setCost_45 : decode cX4_setCost 45 = .ok (.ireturn, 1) := dk_172 (dk_at dksX4_setCost_1 21 rfl rfl)
theorem dX4_setCost_46 : decode cX4_setCost 46 = .ok (.aload_n 0, 1) := dk_42 (dk_at dksX4_setCost_1 22 rfl rfl)
theorem dX4_setCost_47 : decode cX4_setCost 47 = .ok (.getfield 22, 3) := dk_180 0 22 (dk_at dksX4_setCost_2 0 rfl rfl)
theorem dX4_setCost_50 : decode cX4_setCost 50 = .ok (.bipush 7, 2) := dk_16 7 (dk_at dksX4_setCost_2 3 rfl rfl)
theorem dX4_setCost_52 : decode cX4_setCost 52 = .ok (.iload_n 1, 1) := dk_27 (dk_at dksX4_setCost_2 5 rfl rfl)
theorem dX4_setCost_53 : decode cX4_setCost 53 = .ok (.imul, 1) := dk_104 (dk_at dksX4_setCost_2 6 rfl rfl)
theorem dX4_setCost_54 : decode cX4_setCost 54 = .ok (.iload_n 2, 1) := dk_28 (dk_at dksX4_setCost_2 7 rfl rfl)
theorem dX4_setCost_55 : decode cX4_setCost 55 = .ok (.iadd, 1) := dk_96 (dk_at dksX4_setCost_2 8 rfl rfl)
theorem dX4_setCost_56 : decode cX4_setCost 56 = .ok (.iaload, 1) := dk_46 (dk_at dksX4_setCost_2 9 rfl rfl)
theorem dX4_setCost_57 : decode cX4_setCost 57 = .ok (.istore 4, 2) := dk_54 4 (dk_at dksX4_setCost_2 10 rfl rfl)
theorem dX4_setCost_59 : decode cX4_setCost 59 = .ok (.aload_n 0, 1) := dk_42 (dk_at dksX4_setCost_2 12 rfl rfl)
theorem dX4_setCost_60 : decode cX4_setCost 60 = .ok (.getfield 22, 3) := dk_180 0 22 (dk_at dksX4_setCost_2 13 rfl rfl)
theorem dX4_setCost_63 : decode cX4_setCost 63 = .ok (.bipush 7, 2) := dk_16 7 (dk_at dksX4_setCost_2 16 rfl rfl)
theorem dX4_setCost_65 : decode cX4_setCost 65 = .ok (.iload_n 1, 1) := dk_27 (dk_at dksX4_setCost_2 18 rfl rfl)
theorem dX4_setCost_66 : decode cX4_setCost 66 = .ok (.imul, 1) := dk_104 (dk_at dksX4_setCost_2 19 rfl rfl)
theorem dX4_setCost_67 : decode cX4_setCost 67 = .ok (.iload_n 2, 1) := dk_28 (dk_at dksX4_setCost_2 20 rfl rfl)
theorem dX4_setCost_68 : decode cX4_setCost 68 = .ok (.iadd, 1) := dk_96 (dk_at dksX4_setCost_2 21 rfl rfl)
theorem dX4_setCost_69 : decode cX4_setCost 69 = .ok (.iload_n 3, 1) := dk_29 (dk_at dksX4_setCost_2 22 rfl rfl)
theorem dX4_setCost_70 : decode cX4_setCost 70 = .ok (.iastore, 1) := dk_79 (dk_at dksX4_setCost_2 23 rfl rfl)
theorem dX4_setCost_71 : decode cX4_setCost 71 = .ok (.aload_n 0, 1) := dk_42 (dk_at dksX4_setCost_3 0 rfl rfl)
theorem dX4_setCost_72 : decode cX4_setCost 72 = .ok (.iconst (-1), 1) := dk_2 (dk_at dksX4_setCost_3 1 rfl rfl)
theorem dX4_setCost_73 : decode cX4_setCost 73 = .ok (.putfield 48, 3) := dk_181 0 48 (dk_at dksX4_setCost_3 2 rfl rfl)
theorem dX4_setCost_76 : decode cX4_setCost 76 = .ok (.iload 4, 2) := dk_21 4 (dk_at dksX4_setCost_3 5 rfl rfl)
theorem dX4_setCost_78 : decode cX4_setCost 78 = .ok (.ireturn, 1) := dk_172 (dk_at dksX4_setCost_3 7 rfl rfl)
abbrev cX4_isRow : ByteArray := prog_7_method_5_code
def yX4_isRow : MethodName := ⟨RX4, "isRow", "(I)Z"⟩
def dkwX4_isRow_0 : List UInt8 := [27, 133, 9, 42, 180, 0, 7, 4, 100, 133, 184, 0, 63, 172]
abbrev dktX4_isRow_0 : List UInt8 := dkwX4_isRow_0 ++ []
theorem dksX4_isRow_0 : cX4_isRow.data.toList.drop 0 = dktX4_isRow_0 := by decide +kernel
theorem dX4_isRow_0 : decode cX4_isRow 0 = .ok (.iload_n 1, 1) := dk_27 (dk_at dksX4_isRow_0 0 rfl rfl)
theorem dX4_isRow_1 : decode cX4_isRow 1 = .ok (.i2l, 1) := dk_133 (dk_at dksX4_isRow_0 1 rfl rfl)
theorem dX4_isRow_2 : decode cX4_isRow 2 = .ok (.lconst 0, 1) := dk_9 (dk_at dksX4_isRow_0 2 rfl rfl)
theorem dX4_isRow_3 : decode cX4_isRow 3 = .ok (.aload_n 0, 1) := dk_42 (dk_at dksX4_isRow_0 3 rfl rfl)
theorem dX4_isRow_4 : decode cX4_isRow 4 = .ok (.getfield 7, 3) := dk_180 0 7 (dk_at dksX4_isRow_0 4 rfl rfl)
theorem dX4_isRow_7 : decode cX4_isRow 7 = .ok (.iconst 1, 1) := dk_4 (dk_at dksX4_isRow_0 7 rfl rfl)
theorem dX4_isRow_8 : decode cX4_isRow 8 = .ok (.isub, 1) := dk_100 (dk_at dksX4_isRow_0 8 rfl rfl)
theorem dX4_isRow_9 : decode cX4_isRow 9 = .ok (.i2l, 1) := dk_133 (dk_at dksX4_isRow_0 9 rfl rfl)
theorem dX4_isRow_10 : decode cX4_isRow 10 = .ok (.invokestatic 63, 3) := dk_184 0 63 (dk_at dksX4_isRow_0 10 rfl rfl)
theorem dX4_isRow_13 : decode cX4_isRow 13 = .ok (.ireturn, 1) := dk_172 (dk_at dksX4_isRow_0 13 rfl rfl)
abbrev cX4_isReal : ByteArray := prog_7_method_6_code
def yX4_isReal : MethodName := ⟨RX4, "isReal", "(I)Z"⟩
def dkwX4_isReal_0 : List UInt8 := [27, 133, 9, 42, 180, 0, 13, 4, 100, 133, 184, 0, 63, 172]
abbrev dktX4_isReal_0 : List UInt8 := dkwX4_isReal_0 ++ []
theorem dksX4_isReal_0 : cX4_isReal.data.toList.drop 0 = dktX4_isReal_0 := by decide +kernel
theorem dX4_isReal_0 : decode cX4_isReal 0 = .ok (.iload_n 1, 1) := dk_27 (dk_at dksX4_isReal_0 0 rfl rfl)
theorem dX4_isReal_1 : decode cX4_isReal 1 = .ok (.i2l, 1) := dk_133 (dk_at dksX4_isReal_0 1 rfl rfl)
theorem dX4_isReal_2 : decode cX4_isReal 2 = .ok (.lconst 0, 1) := dk_9 (dk_at dksX4_isReal_0 2 rfl rfl)
theorem dX4_isReal_3 : decode cX4_isReal 3 = .ok (.aload_n 0, 1) := dk_42 (dk_at dksX4_isReal_0 3 rfl rfl)
theorem dX4_isReal_4 : decode cX4_isReal 4 = .ok (.getfield 13, 3) := dk_180 0 13 (dk_at dksX4_isReal_0 4 rfl rfl)
theorem dX4_isReal_7 : decode cX4_isReal 7 = .ok (.iconst 1, 1) := dk_4 (dk_at dksX4_isReal_0 7 rfl rfl)
theorem dX4_isReal_8 : decode cX4_isReal 8 = .ok (.isub, 1) := dk_100 (dk_at dksX4_isReal_0 8 rfl rfl)
theorem dX4_isReal_9 : decode cX4_isReal 9 = .ok (.i2l, 1) := dk_133 (dk_at dksX4_isReal_0 9 rfl rfl)
theorem dX4_isReal_10 : decode cX4_isReal 10 = .ok (.invokestatic 63, 3) := dk_184 0 63 (dk_at dksX4_isReal_0 10 rfl rfl)
theorem dX4_isReal_13 : decode cX4_isReal 13 = .ok (.ireturn, 1) := dk_172 (dk_at dksX4_isReal_0 13 rfl rfl)
abbrev cX4_setRow : ByteArray := prog_7_method_23_code
def yX4_setRow : MethodName := ⟨RX4, "setRow", "(IJ)I"⟩
def dkwX4_setRow_6 : List UInt8 := [167, 255, 201, 42, 2, 181, 0, 48, 21, 8, 172]
abbrev dktX4_setRow_6 : List UInt8 := dkwX4_setRow_6 ++ []
def dkwX4_setRow_5 : List UInt8 := [21, 10, 79, 21, 10, 21, 8, 162, 0, 8, 21, 10, 167, 0, 5, 21, 8, 54, 8, 132, 9, 255]
abbrev dktX4_setRow_5 : List UInt8 := dkwX4_setRow_5 ++ dktX4_setRow_6
def dkwX4_setRow_4 : List UInt8 := [113, 136, 54, 10, 22, 6, 20, 0, 130, 109, 55, 6, 42, 180, 0, 22, 16, 7, 27, 104, 21, 9, 96]
abbrev dktX4_setRow_4 : List UInt8 := dkwX4_setRow_4 ++ dktX4_setRow_5
def dkwX4_setRow_3 : List UInt8 := [55, 6, 16, 99, 54, 8, 42, 180, 0, 13, 4, 100, 54, 9, 21, 9, 155, 0, 56, 22, 6, 20, 0, 130]
abbrev dktX4_setRow_3 : List UInt8 := dkwX4_setRow_3 ++ dktX4_setRow_4
def dkwX4_setRow_2 : List UInt8 := [155, 0, 10, 32, 22, 4, 148, 155, 0, 7, 5, 167, 0, 4, 3, 182, 0, 118, 153, 0, 5, 3, 172, 32]
abbrev dktX4_setRow_2 : List UInt8 := dkwX4_setRow_2 ++ dktX4_setRow_3
def dkwX4_setRow_1 : List UInt8 := [132, 6, 1, 167, 255, 236, 42, 42, 27, 182, 0, 122, 154, 0, 7, 4, 167, 0, 21, 32, 9, 148]
abbrev dktX4_setRow_1 : List UInt8 := dkwX4_setRow_1 ++ dktX4_setRow_2
def dkwX4_setRow_0 : List UInt8 := [10, 55, 4, 3, 54, 6, 21, 6, 42, 180, 0, 13, 162, 0, 17, 22, 4, 20, 0, 130, 105, 55, 4]
abbrev dktX4_setRow_0 : List UInt8 := dkwX4_setRow_0 ++ dktX4_setRow_1
theorem dksX4_setRow_0 : cX4_setRow.data.toList.drop 0 = dktX4_setRow_0 := by decide +kernel
theorem dksX4_setRow_1 : cX4_setRow.data.toList.drop 23 = dktX4_setRow_1 := dk_seg dksX4_setRow_0 23 rfl rfl
theorem dksX4_setRow_2 : cX4_setRow.data.toList.drop 45 = dktX4_setRow_2 := dk_seg dksX4_setRow_1 22 rfl rfl
theorem dksX4_setRow_3 : cX4_setRow.data.toList.drop 69 = dktX4_setRow_3 := dk_seg dksX4_setRow_2 24 rfl rfl
theorem dksX4_setRow_4 : cX4_setRow.data.toList.drop 93 = dktX4_setRow_4 := dk_seg dksX4_setRow_3 24 rfl rfl
theorem dksX4_setRow_5 : cX4_setRow.data.toList.drop 116 = dktX4_setRow_5 := dk_seg dksX4_setRow_4 23 rfl rfl
theorem dksX4_setRow_6 : cX4_setRow.data.toList.drop 138 = dktX4_setRow_6 := dk_seg dksX4_setRow_5 22 rfl rfl
theorem dX4_setRow_0 : decode cX4_setRow 0 = .ok (.lconst 1, 1) := dk_10 (dk_at dksX4_setRow_0 0 rfl rfl)
theorem dX4_setRow_1 : decode cX4_setRow 1 = .ok (.lstore 4, 2) := dk_55 4 (dk_at dksX4_setRow_0 1 rfl rfl)
theorem dX4_setRow_3 : decode cX4_setRow 3 = .ok (.iconst 0, 1) := dk_3 (dk_at dksX4_setRow_0 3 rfl rfl)
theorem dX4_setRow_4 : decode cX4_setRow 4 = .ok (.istore 6, 2) := dk_54 6 (dk_at dksX4_setRow_0 4 rfl rfl)
theorem dX4_setRow_6 : decode cX4_setRow 6 = .ok (.iload 6, 2) := dk_21 6 (dk_at dksX4_setRow_0 6 rfl rfl)
theorem dX4_setRow_8 : decode cX4_setRow 8 = .ok (.aload_n 0, 1) := dk_42 (dk_at dksX4_setRow_0 8 rfl rfl)
theorem dX4_setRow_9 : decode cX4_setRow 9 = .ok (.getfield 13, 3) := dk_180 0 13 (dk_at dksX4_setRow_0 9 rfl rfl)
theorem dX4_setRow_12 : decode cX4_setRow 12 = .ok (.if_icmp .ge 17, 3) := dk_162 0 17 (dk_at dksX4_setRow_0 12 rfl rfl)
theorem dX4_setRow_15 : decode cX4_setRow 15 = .ok (.lload 4, 2) := dk_22 4 (dk_at dksX4_setRow_0 15 rfl rfl)
theorem dX4_setRow_17 : decode cX4_setRow 17 = .ok (.ldc2_w 130, 3) := dk_20 0 130 (dk_at dksX4_setRow_0 17 rfl rfl)
theorem dX4_setRow_20 : decode cX4_setRow 20 = .ok (.lmul, 1) := dk_105 (dk_at dksX4_setRow_0 20 rfl rfl)
theorem dX4_setRow_21 : decode cX4_setRow 21 = .ok (.lstore 4, 2) := dk_55 4 (dk_at dksX4_setRow_0 21 rfl rfl)
theorem dX4_setRow_23 : decode cX4_setRow 23 = .ok (.iinc 6 1, 3) := dk_132 6 1 (dk_at dksX4_setRow_1 0 rfl rfl)
theorem dX4_setRow_26 : decode cX4_setRow 26 = .ok (.goto (-20), 3) := dk_167 255 236 (dk_at dksX4_setRow_1 3 rfl rfl)
theorem dX4_setRow_29 : decode cX4_setRow 29 = .ok (.aload_n 0, 1) := dk_42 (dk_at dksX4_setRow_1 6 rfl rfl)
theorem dX4_setRow_30 : decode cX4_setRow 30 = .ok (.aload_n 0, 1) := dk_42 (dk_at dksX4_setRow_1 7 rfl rfl)
theorem dX4_setRow_31 : decode cX4_setRow 31 = .ok (.iload_n 1, 1) := dk_27 (dk_at dksX4_setRow_1 8 rfl rfl)
theorem dX4_setRow_32 : decode cX4_setRow 32 = .ok (.invokevirtual 122, 3) := dk_182 0 122 (dk_at dksX4_setRow_1 9 rfl rfl)
theorem dX4_setRow_35 : decode cX4_setRow 35 = .ok (.ifCond .ne 7, 3) := dk_154 0 7 (dk_at dksX4_setRow_1 12 rfl rfl)
theorem dX4_setRow_38 : decode cX4_setRow 38 = .ok (.iconst 1, 1) := dk_4 (dk_at dksX4_setRow_1 15 rfl rfl)
theorem dX4_setRow_39 : decode cX4_setRow 39 = .ok (.goto 21, 3) := dk_167 0 21 (dk_at dksX4_setRow_1 16 rfl rfl)
theorem dX4_setRow_42 : decode cX4_setRow 42 = .ok (.lload_n 2, 1) := dk_32 (dk_at dksX4_setRow_1 19 rfl rfl)
theorem dX4_setRow_43 : decode cX4_setRow 43 = .ok (.lconst 0, 1) := dk_9 (dk_at dksX4_setRow_1 20 rfl rfl)
theorem dX4_setRow_44 : decode cX4_setRow 44 = .ok (.lcmp, 1) := dk_148 (dk_at dksX4_setRow_1 21 rfl rfl)
theorem dX4_setRow_45 : decode cX4_setRow 45 = .ok (.ifCond .lt 10, 3) := dk_155 0 10 (dk_at dksX4_setRow_2 0 rfl rfl)
theorem dX4_setRow_48 : decode cX4_setRow 48 = .ok (.lload_n 2, 1) := dk_32 (dk_at dksX4_setRow_2 3 rfl rfl)
theorem dX4_setRow_49 : decode cX4_setRow 49 = .ok (.lload 4, 2) := dk_22 4 (dk_at dksX4_setRow_2 4 rfl rfl)
theorem dX4_setRow_51 : decode cX4_setRow 51 = .ok (.lcmp, 1) := dk_148 (dk_at dksX4_setRow_2 6 rfl rfl)
theorem dX4_setRow_52 : decode cX4_setRow 52 = .ok (.ifCond .lt 7, 3) := dk_155 0 7 (dk_at dksX4_setRow_2 7 rfl rfl)
theorem dX4_setRow_55 : decode cX4_setRow 55 = .ok (.iconst 2, 1) := dk_5 (dk_at dksX4_setRow_2 10 rfl rfl)
theorem dX4_setRow_56 : decode cX4_setRow 56 = .ok (.goto 4, 3) := dk_167 0 4 (dk_at dksX4_setRow_2 11 rfl rfl)
theorem dX4_setRow_59 : decode cX4_setRow 59 = .ok (.iconst 0, 1) := dk_3 (dk_at dksX4_setRow_2 14 rfl rfl)
theorem dX4_setRow_60 : decode cX4_setRow 60 = .ok (.invokevirtual 118, 3) := dk_182 0 118 (dk_at dksX4_setRow_2 15 rfl rfl)
theorem dX4_setRow_63 : decode cX4_setRow 63 = .ok (.ifCond .eq 5, 3) := dk_153 0 5 (dk_at dksX4_setRow_2 18 rfl rfl)
theorem dX4_setRow_66 : decode cX4_setRow 66 = .ok (.iconst 0, 1) := dk_3 (dk_at dksX4_setRow_2 21 rfl rfl)
theorem dX4_setRow_67 : decode cX4_setRow 67 = .ok (.ireturn, 1) := dk_172 (dk_at dksX4_setRow_2 22 rfl rfl)
theorem dX4_setRow_68 : decode cX4_setRow 68 = .ok (.lload_n 2, 1) := dk_32 (dk_at dksX4_setRow_2 23 rfl rfl)
theorem dX4_setRow_69 : decode cX4_setRow 69 = .ok (.lstore 6, 2) := dk_55 6 (dk_at dksX4_setRow_3 0 rfl rfl)
theorem dX4_setRow_71 : decode cX4_setRow 71 = .ok (.bipush 99, 2) := dk_16 99 (dk_at dksX4_setRow_3 2 rfl rfl)
theorem dX4_setRow_73 : decode cX4_setRow 73 = .ok (.istore 8, 2) := dk_54 8 (dk_at dksX4_setRow_3 4 rfl rfl)
theorem dX4_setRow_75 : decode cX4_setRow 75 = .ok (.aload_n 0, 1) := dk_42 (dk_at dksX4_setRow_3 6 rfl rfl)
theorem dX4_setRow_76 : decode cX4_setRow 76 = .ok (.getfield 13, 3) := dk_180 0 13 (dk_at dksX4_setRow_3 7 rfl rfl)
theorem dX4_setRow_79 : decode cX4_setRow 79 = .ok (.iconst 1, 1) := dk_4 (dk_at dksX4_setRow_3 10 rfl rfl)
theorem dX4_setRow_80 : decode cX4_setRow 80 = .ok (.isub, 1) := dk_100 (dk_at dksX4_setRow_3 11 rfl rfl)
theorem dX4_setRow_81 : decode cX4_setRow 81 = .ok (.istore 9, 2) := dk_54 9 (dk_at dksX4_setRow_3 12 rfl rfl)
theorem dX4_setRow_83 : decode cX4_setRow 83 = .ok (.iload 9, 2) := dk_21 9 (dk_at dksX4_setRow_3 14 rfl rfl)
theorem dX4_setRow_85 : decode cX4_setRow 85 = .ok (.ifCond .lt 56, 3) := dk_155 0 56 (dk_at dksX4_setRow_3 16 rfl rfl)
theorem dX4_setRow_88 : decode cX4_setRow 88 = .ok (.lload 6, 2) := dk_22 6 (dk_at dksX4_setRow_3 19 rfl rfl)
theorem dX4_setRow_90 : decode cX4_setRow 90 = .ok (.ldc2_w 130, 3) := dk_20 0 130 (dk_at dksX4_setRow_3 21 rfl rfl)
theorem dX4_setRow_93 : decode cX4_setRow 93 = .ok (.lrem, 1) := dk_113 (dk_at dksX4_setRow_4 0 rfl rfl)
theorem dX4_setRow_94 : decode cX4_setRow 94 = .ok (.l2i, 1) := dk_136 (dk_at dksX4_setRow_4 1 rfl rfl)
theorem dX4_setRow_95 : decode cX4_setRow 95 = .ok (.istore 10, 2) := dk_54 10 (dk_at dksX4_setRow_4 2 rfl rfl)
theorem dX4_setRow_97 : decode cX4_setRow 97 = .ok (.lload 6, 2) := dk_22 6 (dk_at dksX4_setRow_4 4 rfl rfl)
theorem dX4_setRow_99 : decode cX4_setRow 99 = .ok (.ldc2_w 130, 3) := dk_20 0 130 (dk_at dksX4_setRow_4 6 rfl rfl)
theorem dX4_setRow_102 : decode cX4_setRow 102 = .ok (.ldiv, 1) := dk_109 (dk_at dksX4_setRow_4 9 rfl rfl)
theorem dX4_setRow_103 : decode cX4_setRow 103 = .ok (.lstore 6, 2) := dk_55 6 (dk_at dksX4_setRow_4 10 rfl rfl)
theorem dX4_setRow_105 : decode cX4_setRow 105 = .ok (.aload_n 0, 1) := dk_42 (dk_at dksX4_setRow_4 12 rfl rfl)
theorem dX4_setRow_106 : decode cX4_setRow 106 = .ok (.getfield 22, 3) := dk_180 0 22 (dk_at dksX4_setRow_4 13 rfl rfl)
theorem dX4_setRow_109 : decode cX4_setRow 109 = .ok (.bipush 7, 2) := dk_16 7 (dk_at dksX4_setRow_4 16 rfl rfl)
theorem dX4_setRow_111 : decode cX4_setRow 111 = .ok (.iload_n 1, 1) := dk_27 (dk_at dksX4_setRow_4 18 rfl rfl)
theorem dX4_setRow_112 : decode cX4_setRow 112 = .ok (.imul, 1) := dk_104 (dk_at dksX4_setRow_4 19 rfl rfl)
theorem dX4_setRow_113 : decode cX4_setRow 113 = .ok (.iload 9, 2) := dk_21 9 (dk_at dksX4_setRow_4 20 rfl rfl)
theorem dX4_setRow_115 : decode cX4_setRow 115 = .ok (.iadd, 1) := dk_96 (dk_at dksX4_setRow_4 22 rfl rfl)
theorem dX4_setRow_116 : decode cX4_setRow 116 = .ok (.iload 10, 2) := dk_21 10 (dk_at dksX4_setRow_5 0 rfl rfl)
theorem dX4_setRow_118 : decode cX4_setRow 118 = .ok (.iastore, 1) := dk_79 (dk_at dksX4_setRow_5 2 rfl rfl)
theorem dX4_setRow_119 : decode cX4_setRow 119 = .ok (.iload 10, 2) := dk_21 10 (dk_at dksX4_setRow_5 3 rfl rfl)
theorem dX4_setRow_121 : decode cX4_setRow 121 = .ok (.iload 8, 2) := dk_21 8 (dk_at dksX4_setRow_5 5 rfl rfl)
theorem dX4_setRow_123 : decode cX4_setRow 123 = .ok (.if_icmp .ge 8, 3) := dk_162 0 8 (dk_at dksX4_setRow_5 7 rfl rfl)
theorem dX4_setRow_126 : decode cX4_setRow 126 = .ok (.iload 10, 2) := dk_21 10 (dk_at dksX4_setRow_5 10 rfl rfl)
theorem dX4_setRow_128 : decode cX4_setRow 128 = .ok (.goto 5, 3) := dk_167 0 5 (dk_at dksX4_setRow_5 12 rfl rfl)
theorem dX4_setRow_131 : decode cX4_setRow 131 = .ok (.iload 8, 2) := dk_21 8 (dk_at dksX4_setRow_5 15 rfl rfl)
theorem dX4_setRow_133 : decode cX4_setRow 133 = .ok (.istore 8, 2) := dk_54 8 (dk_at dksX4_setRow_5 17 rfl rfl)
theorem dX4_setRow_135 : decode cX4_setRow 135 = .ok (.iinc 9 (-1), 3) := dk_132 9 255 (dk_at dksX4_setRow_5 19 rfl rfl)
theorem dX4_setRow_138 : decode cX4_setRow 138 = .ok (.goto (-55), 3) := dk_167 255 201 (dk_at dksX4_setRow_6 0 rfl rfl)
theorem dX4_setRow_141 : decode cX4_setRow 141 = .ok (.aload_n 0, 1) := dk_42 (dk_at dksX4_setRow_6 3 rfl rfl)
theorem dX4_setRow_142 : decode cX4_setRow 142 = .ok (.iconst (-1), 1) := dk_2 (dk_at dksX4_setRow_6 4 rfl rfl)
theorem dX4_setRow_143 : decode cX4_setRow 143 = .ok (.putfield 48, 3) := dk_181 0 48 (dk_at dksX4_setRow_6 5 rfl rfl)
theorem dX4_setRow_146 : decode cX4_setRow 146 = .ok (.iload 8, 2) := dk_21 8 (dk_at dksX4_setRow_6 8 rfl rfl)
theorem dX4_setRow_148 : decode cX4_setRow 148 = .ok (.ireturn, 1) := dk_172 (dk_at dksX4_setRow_6 10 rfl rfl)
abbrev cX4_fill : ByteArray := prog_7_method_24_code
def yX4_fill : MethodName := ⟨RX4, "fill", "(II)I"⟩
def dkwX4_fill_6 : List UInt8 := [42, 2, 181, 0, 48, 21, 4, 172]
abbrev dktX4_fill_6 : List UInt8 := dkwX4_fill_6 ++ []
def dkwX4_fill_5 : List UInt8 := [16, 7, 21, 5, 104, 21, 6, 96, 46, 96, 54, 4, 132, 6, 1, 167, 255, 182, 132, 5, 1, 167, 255, 164]
abbrev dktX4_fill_5 : List UInt8 := dkwX4_fill_5 ++ dktX4_fill_6
def dkwX4_fill_4 : List UInt8 := [96, 112, 79, 42, 180, 0, 29, 16, 7, 21, 5, 104, 21, 6, 96, 3, 84, 21, 4, 42, 180, 0, 22]
abbrev dktX4_fill_4 : List UInt8 := dkwX4_fill_4 ++ dktX4_fill_5
def dkwX4_fill_3 : List UInt8 := [104, 16, 11, 96, 17, 39, 23, 112, 62, 42, 180, 0, 22, 16, 7, 21, 5, 104, 21, 6, 96, 29, 28, 4]
abbrev dktX4_fill_3 : List UInt8 := dkwX4_fill_3 ++ dktX4_fill_4
def dkwX4_fill_2 : List UInt8 := [21, 5, 42, 180, 0, 7, 162, 0, 89, 3, 54, 6, 21, 6, 42, 180, 0, 13, 162, 0, 71, 16, 37, 29]
abbrev dktX4_fill_2 : List UInt8 := dkwX4_fill_2 ++ dktX4_fill_3
def dkwX4_fill_1 : List UInt8 := [154, 0, 7, 4, 167, 0, 4, 3, 182, 0, 118, 153, 0, 5, 3, 172, 27, 62, 3, 54, 4, 3, 54, 5]
abbrev dktX4_fill_1 : List UInt8 := dkwX4_fill_1 ++ dktX4_fill_2
def dkwX4_fill_0 : List UInt8 := [42, 27, 133, 9, 20, 0, 132, 184, 0, 63, 153, 0, 15, 28, 133, 9, 20, 0, 128, 184, 0, 63]
abbrev dktX4_fill_0 : List UInt8 := dkwX4_fill_0 ++ dktX4_fill_1
theorem dksX4_fill_0 : cX4_fill.data.toList.drop 0 = dktX4_fill_0 := by decide +kernel
theorem dksX4_fill_1 : cX4_fill.data.toList.drop 22 = dktX4_fill_1 := dk_seg dksX4_fill_0 22 rfl rfl
theorem dksX4_fill_2 : cX4_fill.data.toList.drop 46 = dktX4_fill_2 := dk_seg dksX4_fill_1 24 rfl rfl
theorem dksX4_fill_3 : cX4_fill.data.toList.drop 70 = dktX4_fill_3 := dk_seg dksX4_fill_2 24 rfl rfl
theorem dksX4_fill_4 : cX4_fill.data.toList.drop 94 = dktX4_fill_4 := dk_seg dksX4_fill_3 24 rfl rfl
theorem dksX4_fill_5 : cX4_fill.data.toList.drop 117 = dktX4_fill_5 := dk_seg dksX4_fill_4 23 rfl rfl
theorem dksX4_fill_6 : cX4_fill.data.toList.drop 141 = dktX4_fill_6 := dk_seg dksX4_fill_5 24 rfl rfl
theorem dX4_fill_0 : decode cX4_fill 0 = .ok (.aload_n 0, 1) := dk_42 (dk_at dksX4_fill_0 0 rfl rfl)
theorem dX4_fill_1 : decode cX4_fill 1 = .ok (.iload_n 1, 1) := dk_27 (dk_at dksX4_fill_0 1 rfl rfl)
theorem dX4_fill_2 : decode cX4_fill 2 = .ok (.i2l, 1) := dk_133 (dk_at dksX4_fill_0 2 rfl rfl)
theorem dX4_fill_3 : decode cX4_fill 3 = .ok (.lconst 0, 1) := dk_9 (dk_at dksX4_fill_0 3 rfl rfl)
theorem dX4_fill_4 : decode cX4_fill 4 = .ok (.ldc2_w 132, 3) := dk_20 0 132 (dk_at dksX4_fill_0 4 rfl rfl)
theorem dX4_fill_7 : decode cX4_fill 7 = .ok (.invokestatic 63, 3) := dk_184 0 63 (dk_at dksX4_fill_0 7 rfl rfl)
theorem dX4_fill_10 : decode cX4_fill 10 = .ok (.ifCond .eq 15, 3) := dk_153 0 15 (dk_at dksX4_fill_0 10 rfl rfl)
theorem dX4_fill_13 : decode cX4_fill 13 = .ok (.iload_n 2, 1) := dk_28 (dk_at dksX4_fill_0 13 rfl rfl)
theorem dX4_fill_14 : decode cX4_fill 14 = .ok (.i2l, 1) := dk_133 (dk_at dksX4_fill_0 14 rfl rfl)
theorem dX4_fill_15 : decode cX4_fill 15 = .ok (.lconst 0, 1) := dk_9 (dk_at dksX4_fill_0 15 rfl rfl)
theorem dX4_fill_16 : decode cX4_fill 16 = .ok (.ldc2_w 128, 3) := dk_20 0 128 (dk_at dksX4_fill_0 16 rfl rfl)
theorem dX4_fill_19 : decode cX4_fill 19 = .ok (.invokestatic 63, 3) := dk_184 0 63 (dk_at dksX4_fill_0 19 rfl rfl)
theorem dX4_fill_22 : decode cX4_fill 22 = .ok (.ifCond .ne 7, 3) := dk_154 0 7 (dk_at dksX4_fill_1 0 rfl rfl)
theorem dX4_fill_25 : decode cX4_fill 25 = .ok (.iconst 1, 1) := dk_4 (dk_at dksX4_fill_1 3 rfl rfl)
theorem dX4_fill_26 : decode cX4_fill 26 = .ok (.goto 4, 3) := dk_167 0 4 (dk_at dksX4_fill_1 4 rfl rfl)
theorem dX4_fill_29 : decode cX4_fill 29 = .ok (.iconst 0, 1) := dk_3 (dk_at dksX4_fill_1 7 rfl rfl)
theorem dX4_fill_30 : decode cX4_fill 30 = .ok (.invokevirtual 118, 3) := dk_182 0 118 (dk_at dksX4_fill_1 8 rfl rfl)
theorem dX4_fill_33 : decode cX4_fill 33 = .ok (.ifCond .eq 5, 3) := dk_153 0 5 (dk_at dksX4_fill_1 11 rfl rfl)
theorem dX4_fill_36 : decode cX4_fill 36 = .ok (.iconst 0, 1) := dk_3 (dk_at dksX4_fill_1 14 rfl rfl)
theorem dX4_fill_37 : decode cX4_fill 37 = .ok (.ireturn, 1) := dk_172 (dk_at dksX4_fill_1 15 rfl rfl)
theorem dX4_fill_38 : decode cX4_fill 38 = .ok (.iload_n 1, 1) := dk_27 (dk_at dksX4_fill_1 16 rfl rfl)
theorem dX4_fill_39 : decode cX4_fill 39 = .ok (.istore_n 3, 1) := dk_62 (dk_at dksX4_fill_1 17 rfl rfl)
theorem dX4_fill_40 : decode cX4_fill 40 = .ok (.iconst 0, 1) := dk_3 (dk_at dksX4_fill_1 18 rfl rfl)
theorem dX4_fill_41 : decode cX4_fill 41 = .ok (.istore 4, 2) := dk_54 4 (dk_at dksX4_fill_1 19 rfl rfl)
theorem dX4_fill_43 : decode cX4_fill 43 = .ok (.iconst 0, 1) := dk_3 (dk_at dksX4_fill_1 21 rfl rfl)
theorem dX4_fill_44 : decode cX4_fill 44 = .ok (.istore 5, 2) := dk_54 5 (dk_at dksX4_fill_1 22 rfl rfl)
theorem dX4_fill_46 : decode cX4_fill 46 = .ok (.iload 5, 2) := dk_21 5 (dk_at dksX4_fill_2 0 rfl rfl)
theorem dX4_fill_48 : decode cX4_fill 48 = .ok (.aload_n 0, 1) := dk_42 (dk_at dksX4_fill_2 2 rfl rfl)
theorem dX4_fill_49 : decode cX4_fill 49 = .ok (.getfield 7, 3) := dk_180 0 7 (dk_at dksX4_fill_2 3 rfl rfl)
theorem dX4_fill_52 : decode cX4_fill 52 = .ok (.if_icmp .ge 89, 3) := dk_162 0 89 (dk_at dksX4_fill_2 6 rfl rfl)
theorem dX4_fill_55 : decode cX4_fill 55 = .ok (.iconst 0, 1) := dk_3 (dk_at dksX4_fill_2 9 rfl rfl)
theorem dX4_fill_56 : decode cX4_fill 56 = .ok (.istore 6, 2) := dk_54 6 (dk_at dksX4_fill_2 10 rfl rfl)
theorem dX4_fill_58 : decode cX4_fill 58 = .ok (.iload 6, 2) := dk_21 6 (dk_at dksX4_fill_2 12 rfl rfl)
theorem dX4_fill_60 : decode cX4_fill 60 = .ok (.aload_n 0, 1) := dk_42 (dk_at dksX4_fill_2 14 rfl rfl)
theorem dX4_fill_61 : decode cX4_fill 61 = .ok (.getfield 13, 3) := dk_180 0 13 (dk_at dksX4_fill_2 15 rfl rfl)
theorem dX4_fill_64 : decode cX4_fill 64 = .ok (.if_icmp .ge 71, 3) := dk_162 0 71 (dk_at dksX4_fill_2 18 rfl rfl)
theorem dX4_fill_67 : decode cX4_fill 67 = .ok (.bipush 37, 2) := dk_16 37 (dk_at dksX4_fill_2 21 rfl rfl)
theorem dX4_fill_69 : decode cX4_fill 69 = .ok (.iload_n 3, 1) := dk_29 (dk_at dksX4_fill_2 23 rfl rfl)
theorem dX4_fill_70 : decode cX4_fill 70 = .ok (.imul, 1) := dk_104 (dk_at dksX4_fill_3 0 rfl rfl)
theorem dX4_fill_71 : decode cX4_fill 71 = .ok (.bipush 11, 2) := dk_16 11 (dk_at dksX4_fill_3 1 rfl rfl)
theorem dX4_fill_73 : decode cX4_fill 73 = .ok (.iadd, 1) := dk_96 (dk_at dksX4_fill_3 3 rfl rfl)
theorem dX4_fill_74 : decode cX4_fill 74 = .ok (.sipush 10007, 3) := dk_17 39 23 (dk_at dksX4_fill_3 4 rfl rfl)
theorem dX4_fill_77 : decode cX4_fill 77 = .ok (.irem, 1) := dk_112 (dk_at dksX4_fill_3 7 rfl rfl)
theorem dX4_fill_78 : decode cX4_fill 78 = .ok (.istore_n 3, 1) := dk_62 (dk_at dksX4_fill_3 8 rfl rfl)
theorem dX4_fill_79 : decode cX4_fill 79 = .ok (.aload_n 0, 1) := dk_42 (dk_at dksX4_fill_3 9 rfl rfl)
theorem dX4_fill_80 : decode cX4_fill 80 = .ok (.getfield 22, 3) := dk_180 0 22 (dk_at dksX4_fill_3 10 rfl rfl)
theorem dX4_fill_83 : decode cX4_fill 83 = .ok (.bipush 7, 2) := dk_16 7 (dk_at dksX4_fill_3 13 rfl rfl)
theorem dX4_fill_85 : decode cX4_fill 85 = .ok (.iload 5, 2) := dk_21 5 (dk_at dksX4_fill_3 15 rfl rfl)
theorem dX4_fill_87 : decode cX4_fill 87 = .ok (.imul, 1) := dk_104 (dk_at dksX4_fill_3 17 rfl rfl)
theorem dX4_fill_88 : decode cX4_fill 88 = .ok (.iload 6, 2) := dk_21 6 (dk_at dksX4_fill_3 18 rfl rfl)
theorem dX4_fill_90 : decode cX4_fill 90 = .ok (.iadd, 1) := dk_96 (dk_at dksX4_fill_3 20 rfl rfl)
theorem dX4_fill_91 : decode cX4_fill 91 = .ok (.iload_n 3, 1) := dk_29 (dk_at dksX4_fill_3 21 rfl rfl)
theorem dX4_fill_92 : decode cX4_fill 92 = .ok (.iload_n 2, 1) := dk_28 (dk_at dksX4_fill_3 22 rfl rfl)
theorem dX4_fill_93 : decode cX4_fill 93 = .ok (.iconst 1, 1) := dk_4 (dk_at dksX4_fill_3 23 rfl rfl)
theorem dX4_fill_94 : decode cX4_fill 94 = .ok (.iadd, 1) := dk_96 (dk_at dksX4_fill_4 0 rfl rfl)
theorem dX4_fill_95 : decode cX4_fill 95 = .ok (.irem, 1) := dk_112 (dk_at dksX4_fill_4 1 rfl rfl)
theorem dX4_fill_96 : decode cX4_fill 96 = .ok (.iastore, 1) := dk_79 (dk_at dksX4_fill_4 2 rfl rfl)
theorem dX4_fill_97 : decode cX4_fill 97 = .ok (.aload_n 0, 1) := dk_42 (dk_at dksX4_fill_4 3 rfl rfl)
theorem dX4_fill_98 : decode cX4_fill 98 = .ok (.getfield 29, 3) := dk_180 0 29 (dk_at dksX4_fill_4 4 rfl rfl)
theorem dX4_fill_101 : decode cX4_fill 101 = .ok (.bipush 7, 2) := dk_16 7 (dk_at dksX4_fill_4 7 rfl rfl)
theorem dX4_fill_103 : decode cX4_fill 103 = .ok (.iload 5, 2) := dk_21 5 (dk_at dksX4_fill_4 9 rfl rfl)
theorem dX4_fill_105 : decode cX4_fill 105 = .ok (.imul, 1) := dk_104 (dk_at dksX4_fill_4 11 rfl rfl)
theorem dX4_fill_106 : decode cX4_fill 106 = .ok (.iload 6, 2) := dk_21 6 (dk_at dksX4_fill_4 12 rfl rfl)
theorem dX4_fill_108 : decode cX4_fill 108 = .ok (.iadd, 1) := dk_96 (dk_at dksX4_fill_4 14 rfl rfl)
theorem dX4_fill_109 : decode cX4_fill 109 = .ok (.iconst 0, 1) := dk_3 (dk_at dksX4_fill_4 15 rfl rfl)
theorem dX4_fill_110 : decode cX4_fill 110 = .ok (.bastore, 1) := dk_84 (dk_at dksX4_fill_4 16 rfl rfl)
theorem dX4_fill_111 : decode cX4_fill 111 = .ok (.iload 4, 2) := dk_21 4 (dk_at dksX4_fill_4 17 rfl rfl)
theorem dX4_fill_113 : decode cX4_fill 113 = .ok (.aload_n 0, 1) := dk_42 (dk_at dksX4_fill_4 19 rfl rfl)
theorem dX4_fill_114 : decode cX4_fill 114 = .ok (.getfield 22, 3) := dk_180 0 22 (dk_at dksX4_fill_4 20 rfl rfl)
theorem dX4_fill_117 : decode cX4_fill 117 = .ok (.bipush 7, 2) := dk_16 7 (dk_at dksX4_fill_5 0 rfl rfl)
theorem dX4_fill_119 : decode cX4_fill 119 = .ok (.iload 5, 2) := dk_21 5 (dk_at dksX4_fill_5 2 rfl rfl)
theorem dX4_fill_121 : decode cX4_fill 121 = .ok (.imul, 1) := dk_104 (dk_at dksX4_fill_5 4 rfl rfl)
theorem dX4_fill_122 : decode cX4_fill 122 = .ok (.iload 6, 2) := dk_21 6 (dk_at dksX4_fill_5 5 rfl rfl)
theorem dX4_fill_124 : decode cX4_fill 124 = .ok (.iadd, 1) := dk_96 (dk_at dksX4_fill_5 7 rfl rfl)
theorem dX4_fill_125 : decode cX4_fill 125 = .ok (.iaload, 1) := dk_46 (dk_at dksX4_fill_5 8 rfl rfl)
theorem dX4_fill_126 : decode cX4_fill 126 = .ok (.iadd, 1) := dk_96 (dk_at dksX4_fill_5 9 rfl rfl)
theorem dX4_fill_127 : decode cX4_fill 127 = .ok (.istore 4, 2) := dk_54 4 (dk_at dksX4_fill_5 10 rfl rfl)
theorem dX4_fill_129 : decode cX4_fill 129 = .ok (.iinc 6 1, 3) := dk_132 6 1 (dk_at dksX4_fill_5 12 rfl rfl)
theorem dX4_fill_132 : decode cX4_fill 132 = .ok (.goto (-74), 3) := dk_167 255 182 (dk_at dksX4_fill_5 15 rfl rfl)
theorem dX4_fill_135 : decode cX4_fill 135 = .ok (.iinc 5 1, 3) := dk_132 5 1 (dk_at dksX4_fill_5 18 rfl rfl)
theorem dX4_fill_138 : decode cX4_fill 138 = .ok (.goto (-92), 3) := dk_167 255 164 (dk_at dksX4_fill_5 21 rfl rfl)
theorem dX4_fill_141 : decode cX4_fill 141 = .ok (.aload_n 0, 1) := dk_42 (dk_at dksX4_fill_6 0 rfl rfl)
theorem dX4_fill_142 : decode cX4_fill 142 = .ok (.iconst (-1), 1) := dk_2 (dk_at dksX4_fill_6 1 rfl rfl)
theorem dX4_fill_143 : decode cX4_fill 143 = .ok (.putfield 48, 3) := dk_181 0 48 (dk_at dksX4_fill_6 2 rfl rfl)
theorem dX4_fill_146 : decode cX4_fill 146 = .ok (.iload 4, 2) := dk_21 4 (dk_at dksX4_fill_6 5 rfl rfl)
theorem dX4_fill_148 : decode cX4_fill 148 = .ok (.ireturn, 1) := dk_172 (dk_at dksX4_fill_6 7 rfl rfl)
abbrev cX4_setForbidden : ByteArray := prog_7_method_26_code
def yX4_setForbidden : MethodName := ⟨RX4, "setForbidden", "(IIZ)I"⟩
def dkwX4_setForbidden_2 : List UInt8 := [181, 0, 48, 42, 182, 0, 134, 172]
abbrev dktX4_setForbidden_2 : List UInt8 := dkwX4_setForbidden_2 ++ []
def dkwX4_setForbidden_1 : List UInt8 := [182, 0, 118, 153, 0, 5, 3, 172, 42, 180, 0, 29, 16, 7, 27, 104, 28, 96, 29, 84, 42, 2]
abbrev dktX4_setForbidden_1 : List UInt8 := dkwX4_setForbidden_1 ++ dktX4_setForbidden_2
def dkwX4_setForbidden_0 : List UInt8 := [42, 42, 27, 182, 0, 122, 153, 0, 11, 42, 28, 182, 0, 125, 154, 0, 7, 4, 167, 0, 4, 3]
abbrev dktX4_setForbidden_0 : List UInt8 := dkwX4_setForbidden_0 ++ dktX4_setForbidden_1
theorem dksX4_setForbidden_0 : cX4_setForbidden.data.toList.drop 0 = dktX4_setForbidden_0 := by decide +kernel
theorem dksX4_setForbidden_1 : cX4_setForbidden.data.toList.drop 22 = dktX4_setForbidden_1 := dk_seg dksX4_setForbidden_0 22 rfl rfl
theorem dksX4_setForbidden_2 : cX4_setForbidden.data.toList.drop 44 = dktX4_setForbidden_2 := dk_seg dksX4_setForbidden_1 22 rfl rfl
theorem dX4_setForbidden_0 : decode cX4_setForbidden 0 = .ok (.aload_n 0, 1) := dk_42 (dk_at dksX4_setForbidden_0 0 rfl rfl)
theorem dX4_setForbidden_1 : decode cX4_setForbidden 1 = .ok (.aload_n 0, 1) := dk_42 (dk_at dksX4_setForbidden_0 1 rfl rfl)
theorem dX4_setForbidden_2 : decode cX4_setForbidden 2 = .ok (.iload_n 1, 1) := dk_27 (dk_at dksX4_setForbidden_0 2 rfl rfl)
theorem dX4_setForbidden_3 : decode cX4_setForbidden 3 = .ok (.invokevirtual 122, 3) := dk_182 0 122 (dk_at dksX4_setForbidden_0 3 rfl rfl)
theorem dX4_setForbidden_6 : decode cX4_setForbidden 6 = .ok (.ifCond .eq 11, 3) := dk_153 0 11 (dk_at dksX4_setForbidden_0 6 rfl rfl)
theorem dX4_setForbidden_9 : decode cX4_setForbidden 9 = .ok (.aload_n 0, 1) := dk_42 (dk_at dksX4_setForbidden_0 9 rfl rfl)
theorem dX4_setForbidden_10 : decode cX4_setForbidden 10 = .ok (.iload_n 2, 1) := dk_28 (dk_at dksX4_setForbidden_0 10 rfl rfl)
theorem dX4_setForbidden_11 : decode cX4_setForbidden 11 = .ok (.invokevirtual 125, 3) := dk_182 0 125 (dk_at dksX4_setForbidden_0 11 rfl rfl)
theorem dX4_setForbidden_14 : decode cX4_setForbidden 14 = .ok (.ifCond .ne 7, 3) := dk_154 0 7 (dk_at dksX4_setForbidden_0 14 rfl rfl)
theorem dX4_setForbidden_17 : decode cX4_setForbidden 17 = .ok (.iconst 1, 1) := dk_4 (dk_at dksX4_setForbidden_0 17 rfl rfl)
theorem dX4_setForbidden_18 : decode cX4_setForbidden 18 = .ok (.goto 4, 3) := dk_167 0 4 (dk_at dksX4_setForbidden_0 18 rfl rfl)
theorem dX4_setForbidden_21 : decode cX4_setForbidden 21 = .ok (.iconst 0, 1) := dk_3 (dk_at dksX4_setForbidden_0 21 rfl rfl)
theorem dX4_setForbidden_22 : decode cX4_setForbidden 22 = .ok (.invokevirtual 118, 3) := dk_182 0 118 (dk_at dksX4_setForbidden_1 0 rfl rfl)
theorem dX4_setForbidden_25 : decode cX4_setForbidden 25 = .ok (.ifCond .eq 5, 3) := dk_153 0 5 (dk_at dksX4_setForbidden_1 3 rfl rfl)
theorem dX4_setForbidden_28 : decode cX4_setForbidden 28 = .ok (.iconst 0, 1) := dk_3 (dk_at dksX4_setForbidden_1 6 rfl rfl)
theorem dX4_setForbidden_29 : decode cX4_setForbidden 29 = .ok (.ireturn, 1) := dk_172 (dk_at dksX4_setForbidden_1 7 rfl rfl)
theorem dX4_setForbidden_30 : decode cX4_setForbidden 30 = .ok (.aload_n 0, 1) := dk_42 (dk_at dksX4_setForbidden_1 8 rfl rfl)
theorem dX4_setForbidden_31 : decode cX4_setForbidden 31 = .ok (.getfield 29, 3) := dk_180 0 29 (dk_at dksX4_setForbidden_1 9 rfl rfl)
theorem dX4_setForbidden_34 : decode cX4_setForbidden 34 = .ok (.bipush 7, 2) := dk_16 7 (dk_at dksX4_setForbidden_1 12 rfl rfl)
theorem dX4_setForbidden_36 : decode cX4_setForbidden 36 = .ok (.iload_n 1, 1) := dk_27 (dk_at dksX4_setForbidden_1 14 rfl rfl)
theorem dX4_setForbidden_37 : decode cX4_setForbidden 37 = .ok (.imul, 1) := dk_104 (dk_at dksX4_setForbidden_1 15 rfl rfl)
theorem dX4_setForbidden_38 : decode cX4_setForbidden 38 = .ok (.iload_n 2, 1) := dk_28 (dk_at dksX4_setForbidden_1 16 rfl rfl)
theorem dX4_setForbidden_39 : decode cX4_setForbidden 39 = .ok (.iadd, 1) := dk_96 (dk_at dksX4_setForbidden_1 17 rfl rfl)
theorem dX4_setForbidden_40 : decode cX4_setForbidden 40 = .ok (.iload_n 3, 1) := dk_29 (dk_at dksX4_setForbidden_1 18 rfl rfl)
theorem dX4_setForbidden_41 : decode cX4_setForbidden 41 = .ok (.bastore, 1) := dk_84 (dk_at dksX4_setForbidden_1 19 rfl rfl)
theorem dX4_setForbidden_42 : decode cX4_setForbidden 42 = .ok (.aload_n 0, 1) := dk_42 (dk_at dksX4_setForbidden_1 20 rfl rfl)
theorem dX4_setForbidden_43 : decode cX4_setForbidden 43 = .ok (.iconst (-1), 1) := dk_2 (dk_at dksX4_setForbidden_1 21 rfl rfl)
theorem dX4_setForbidden_44 : decode cX4_setForbidden 44 = .ok (.putfield 48, 3) := dk_181 0 48 (dk_at dksX4_setForbidden_2 0 rfl rfl)
theorem dX4_setForbidden_47 : decode cX4_setForbidden 47 = .ok (.aload_n 0, 1) := dk_42 (dk_at dksX4_setForbidden_2 3 rfl rfl)
theorem dX4_setForbidden_48 : decode cX4_setForbidden 48 = .ok (.invokevirtual 134, 3) := dk_182 0 134 (dk_at dksX4_setForbidden_2 4 rfl rfl)
theorem dX4_setForbidden_51 : decode cX4_setForbidden 51 = .ok (.ireturn, 1) := dk_172 (dk_at dksX4_setForbidden_2 7 rfl rfl)
abbrev cX4_forbiddenMany : ByteArray := prog_7_method_25_code
def yX4_forbiddenMany : MethodName := ⟨RX4, "forbiddenMany", "()I"⟩
def dkwX4_forbiddenMany_2 : List UInt8 := [167, 255, 223, 132, 2, 1, 167, 255, 207, 27, 172]
abbrev dktX4_forbiddenMany_2 : List UInt8 := dkwX4_forbiddenMany_2 ++ []
def dkwX4_forbiddenMany_1 : List UInt8 := [180, 0, 29, 16, 7, 28, 104, 29, 96, 51, 153, 0, 7, 4, 167, 0, 4, 3, 96, 60, 132, 3, 1]
abbrev dktX4_forbiddenMany_1 : List UInt8 := dkwX4_forbiddenMany_1 ++ dktX4_forbiddenMany_2
def dkwX4_forbiddenMany_0 : List UInt8 := [3, 60, 3, 61, 28, 42, 180, 0, 7, 162, 0, 47, 3, 62, 29, 42, 180, 0, 13, 162, 0, 31, 27, 42]
abbrev dktX4_forbiddenMany_0 : List UInt8 := dkwX4_forbiddenMany_0 ++ dktX4_forbiddenMany_1
theorem dksX4_forbiddenMany_0 : cX4_forbiddenMany.data.toList.drop 0 = dktX4_forbiddenMany_0 := by decide +kernel
theorem dksX4_forbiddenMany_1 : cX4_forbiddenMany.data.toList.drop 24 = dktX4_forbiddenMany_1 := dk_seg dksX4_forbiddenMany_0 24 rfl rfl
theorem dksX4_forbiddenMany_2 : cX4_forbiddenMany.data.toList.drop 47 = dktX4_forbiddenMany_2 := dk_seg dksX4_forbiddenMany_1 23 rfl rfl
theorem dX4_forbiddenMany_0 : decode cX4_forbiddenMany 0 = .ok (.iconst 0, 1) := dk_3 (dk_at dksX4_forbiddenMany_0 0 rfl rfl)
theorem dX4_forbiddenMany_1 : decode cX4_forbiddenMany 1 = .ok (.istore_n 1, 1) := dk_60 (dk_at dksX4_forbiddenMany_0 1 rfl rfl)
theorem dX4_forbiddenMany_2 : decode cX4_forbiddenMany 2 = .ok (.iconst 0, 1) := dk_3 (dk_at dksX4_forbiddenMany_0 2 rfl rfl)
theorem dX4_forbiddenMany_3 : decode cX4_forbiddenMany 3 = .ok (.istore_n 2, 1) := dk_61 (dk_at dksX4_forbiddenMany_0 3 rfl rfl)
theorem dX4_forbiddenMany_4 : decode cX4_forbiddenMany 4 = .ok (.iload_n 2, 1) := dk_28 (dk_at dksX4_forbiddenMany_0 4 rfl rfl)
theorem dX4_forbiddenMany_5 : decode cX4_forbiddenMany 5 = .ok (.aload_n 0, 1) := dk_42 (dk_at dksX4_forbiddenMany_0 5 rfl rfl)
theorem dX4_forbiddenMany_6 : decode cX4_forbiddenMany 6 = .ok (.getfield 7, 3) := dk_180 0 7 (dk_at dksX4_forbiddenMany_0 6 rfl rfl)
theorem dX4_forbiddenMany_9 : decode cX4_forbiddenMany 9 = .ok (.if_icmp .ge 47, 3) := dk_162 0 47 (dk_at dksX4_forbiddenMany_0 9 rfl rfl)
theorem dX4_forbiddenMany_12 : decode cX4_forbiddenMany 12 = .ok (.iconst 0, 1) := dk_3 (dk_at dksX4_forbiddenMany_0 12 rfl rfl)
theorem dX4_forbiddenMany_13 : decode cX4_forbiddenMany 13 = .ok (.istore_n 3, 1) := dk_62 (dk_at dksX4_forbiddenMany_0 13 rfl rfl)
theorem dX4_forbiddenMany_14 : decode cX4_forbiddenMany 14 = .ok (.iload_n 3, 1) := dk_29 (dk_at dksX4_forbiddenMany_0 14 rfl rfl)
theorem dX4_forbiddenMany_15 : decode cX4_forbiddenMany 15 = .ok (.aload_n 0, 1) := dk_42 (dk_at dksX4_forbiddenMany_0 15 rfl rfl)
theorem dX4_forbiddenMany_16 : decode cX4_forbiddenMany 16 = .ok (.getfield 13, 3) := dk_180 0 13 (dk_at dksX4_forbiddenMany_0 16 rfl rfl)
theorem dX4_forbiddenMany_19 : decode cX4_forbiddenMany 19 = .ok (.if_icmp .ge 31, 3) := dk_162 0 31 (dk_at dksX4_forbiddenMany_0 19 rfl rfl)
theorem dX4_forbiddenMany_22 : decode cX4_forbiddenMany 22 = .ok (.iload_n 1, 1) := dk_27 (dk_at dksX4_forbiddenMany_0 22 rfl rfl)
theorem dX4_forbiddenMany_23 : decode cX4_forbiddenMany 23 = .ok (.aload_n 0, 1) := dk_42 (dk_at dksX4_forbiddenMany_0 23 rfl rfl)
theorem dX4_forbiddenMany_24 : decode cX4_forbiddenMany 24 = .ok (.getfield 29, 3) := dk_180 0 29 (dk_at dksX4_forbiddenMany_1 0 rfl rfl)
theorem dX4_forbiddenMany_27 : decode cX4_forbiddenMany 27 = .ok (.bipush 7, 2) := dk_16 7 (dk_at dksX4_forbiddenMany_1 3 rfl rfl)
theorem dX4_forbiddenMany_29 : decode cX4_forbiddenMany 29 = .ok (.iload_n 2, 1) := dk_28 (dk_at dksX4_forbiddenMany_1 5 rfl rfl)
theorem dX4_forbiddenMany_30 : decode cX4_forbiddenMany 30 = .ok (.imul, 1) := dk_104 (dk_at dksX4_forbiddenMany_1 6 rfl rfl)
theorem dX4_forbiddenMany_31 : decode cX4_forbiddenMany 31 = .ok (.iload_n 3, 1) := dk_29 (dk_at dksX4_forbiddenMany_1 7 rfl rfl)
theorem dX4_forbiddenMany_32 : decode cX4_forbiddenMany 32 = .ok (.iadd, 1) := dk_96 (dk_at dksX4_forbiddenMany_1 8 rfl rfl)
theorem dX4_forbiddenMany_33 : decode cX4_forbiddenMany 33 = .ok (.baload, 1) := dk_51 (dk_at dksX4_forbiddenMany_1 9 rfl rfl)
theorem dX4_forbiddenMany_34 : decode cX4_forbiddenMany 34 = .ok (.ifCond .eq 7, 3) := dk_153 0 7 (dk_at dksX4_forbiddenMany_1 10 rfl rfl)
theorem dX4_forbiddenMany_37 : decode cX4_forbiddenMany 37 = .ok (.iconst 1, 1) := dk_4 (dk_at dksX4_forbiddenMany_1 13 rfl rfl)
theorem dX4_forbiddenMany_38 : decode cX4_forbiddenMany 38 = .ok (.goto 4, 3) := dk_167 0 4 (dk_at dksX4_forbiddenMany_1 14 rfl rfl)
theorem dX4_forbiddenMany_41 : decode cX4_forbiddenMany 41 = .ok (.iconst 0, 1) := dk_3 (dk_at dksX4_forbiddenMany_1 17 rfl rfl)
theorem dX4_forbiddenMany_42 : decode cX4_forbiddenMany 42 = .ok (.iadd, 1) := dk_96 (dk_at dksX4_forbiddenMany_1 18 rfl rfl)
theorem dX4_forbiddenMany_43 : decode cX4_forbiddenMany 43 = .ok (.istore_n 1, 1) := dk_60 (dk_at dksX4_forbiddenMany_1 19 rfl rfl)
theorem dX4_forbiddenMany_44 : decode cX4_forbiddenMany 44 = .ok (.iinc 3 1, 3) := dk_132 3 1 (dk_at dksX4_forbiddenMany_1 20 rfl rfl)
theorem dX4_forbiddenMany_47 : decode cX4_forbiddenMany 47 = .ok (.goto (-33), 3) := dk_167 255 223 (dk_at dksX4_forbiddenMany_2 0 rfl rfl)
theorem dX4_forbiddenMany_50 : decode cX4_forbiddenMany 50 = .ok (.iinc 2 1, 3) := dk_132 2 1 (dk_at dksX4_forbiddenMany_2 3 rfl rfl)
theorem dX4_forbiddenMany_53 : decode cX4_forbiddenMany 53 = .ok (.goto (-49), 3) := dk_167 255 207 (dk_at dksX4_forbiddenMany_2 6 rfl rfl)
theorem dX4_forbiddenMany_56 : decode cX4_forbiddenMany 56 = .ok (.iload_n 1, 1) := dk_27 (dk_at dksX4_forbiddenMany_2 9 rfl rfl)
theorem dX4_forbiddenMany_57 : decode cX4_forbiddenMany 57 = .ok (.ireturn, 1) := dk_172 (dk_at dksX4_forbiddenMany_2 10 rfl rfl)
abbrev cX4_costAt : ByteArray := prog_7_method_27_code
def yX4_costAt : MethodName := ⟨RX4, "costAt", "(II)I"⟩
def dkwX4_costAt_1 : List UInt8 := [182, 0, 118, 153, 0, 7, 3, 167, 0, 9, 42, 27, 28, 182, 0, 75, 172]
abbrev dktX4_costAt_1 : List UInt8 := dkwX4_costAt_1 ++ []
def dkwX4_costAt_0 : List UInt8 := [42, 42, 27, 182, 0, 122, 153, 0, 11, 42, 28, 182, 0, 122, 154, 0, 7, 4, 167, 0, 4, 3]
abbrev dktX4_costAt_0 : List UInt8 := dkwX4_costAt_0 ++ dktX4_costAt_1
theorem dksX4_costAt_0 : cX4_costAt.data.toList.drop 0 = dktX4_costAt_0 := by decide +kernel
theorem dksX4_costAt_1 : cX4_costAt.data.toList.drop 22 = dktX4_costAt_1 := dk_seg dksX4_costAt_0 22 rfl rfl
theorem dX4_costAt_0 : decode cX4_costAt 0 = .ok (.aload_n 0, 1) := dk_42 (dk_at dksX4_costAt_0 0 rfl rfl)
theorem dX4_costAt_1 : decode cX4_costAt 1 = .ok (.aload_n 0, 1) := dk_42 (dk_at dksX4_costAt_0 1 rfl rfl)
theorem dX4_costAt_2 : decode cX4_costAt 2 = .ok (.iload_n 1, 1) := dk_27 (dk_at dksX4_costAt_0 2 rfl rfl)
theorem dX4_costAt_3 : decode cX4_costAt 3 = .ok (.invokevirtual 122, 3) := dk_182 0 122 (dk_at dksX4_costAt_0 3 rfl rfl)
theorem dX4_costAt_6 : decode cX4_costAt 6 = .ok (.ifCond .eq 11, 3) := dk_153 0 11 (dk_at dksX4_costAt_0 6 rfl rfl)
theorem dX4_costAt_9 : decode cX4_costAt 9 = .ok (.aload_n 0, 1) := dk_42 (dk_at dksX4_costAt_0 9 rfl rfl)
theorem dX4_costAt_10 : decode cX4_costAt 10 = .ok (.iload_n 2, 1) := dk_28 (dk_at dksX4_costAt_0 10 rfl rfl)
theorem dX4_costAt_11 : decode cX4_costAt 11 = .ok (.invokevirtual 122, 3) := dk_182 0 122 (dk_at dksX4_costAt_0 11 rfl rfl)
theorem dX4_costAt_14 : decode cX4_costAt 14 = .ok (.ifCond .ne 7, 3) := dk_154 0 7 (dk_at dksX4_costAt_0 14 rfl rfl)
theorem dX4_costAt_17 : decode cX4_costAt 17 = .ok (.iconst 1, 1) := dk_4 (dk_at dksX4_costAt_0 17 rfl rfl)
theorem dX4_costAt_18 : decode cX4_costAt 18 = .ok (.goto 4, 3) := dk_167 0 4 (dk_at dksX4_costAt_0 18 rfl rfl)
theorem dX4_costAt_21 : decode cX4_costAt 21 = .ok (.iconst 0, 1) := dk_3 (dk_at dksX4_costAt_0 21 rfl rfl)
theorem dX4_costAt_22 : decode cX4_costAt 22 = .ok (.invokevirtual 118, 3) := dk_182 0 118 (dk_at dksX4_costAt_1 0 rfl rfl)
theorem dX4_costAt_25 : decode cX4_costAt 25 = .ok (.ifCond .eq 7, 3) := dk_153 0 7 (dk_at dksX4_costAt_1 3 rfl rfl)
theorem dX4_costAt_28 : decode cX4_costAt 28 = .ok (.iconst 0, 1) := dk_3 (dk_at dksX4_costAt_1 6 rfl rfl)
theorem dX4_costAt_29 : decode cX4_costAt 29 = .ok (.goto 9, 3) := dk_167 0 9 (dk_at dksX4_costAt_1 7 rfl rfl)
theorem dX4_costAt_32 : decode cX4_costAt 32 = .ok (.aload_n 0, 1) := dk_42 (dk_at dksX4_costAt_1 10 rfl rfl)
theorem dX4_costAt_33 : decode cX4_costAt 33 = .ok (.iload_n 1, 1) := dk_27 (dk_at dksX4_costAt_1 11 rfl rfl)
theorem dX4_costAt_34 : decode cX4_costAt 34 = .ok (.iload_n 2, 1) := dk_28 (dk_at dksX4_costAt_1 12 rfl rfl)
theorem dX4_costAt_35 : decode cX4_costAt 35 = .ok (.invokevirtual 75, 3) := dk_182 0 75 (dk_at dksX4_costAt_1 13 rfl rfl)
theorem dX4_costAt_38 : decode cX4_costAt 38 = .ok (.ireturn, 1) := dk_172 (dk_at dksX4_costAt_1 16 rfl rfl)
abbrev cX4_cost : ByteArray := prog_7_method_7_code
def yX4_cost : MethodName := ⟨RX4, "cost", "(II)I"⟩
def dkwX4_cost_1 : List UInt8 := [153, 0, 9, 17, 3, 232, 167, 0, 14, 42, 180, 0, 22, 16, 7, 27, 104, 28, 96, 46, 172]
abbrev dktX4_cost_1 : List UInt8 := dkwX4_cost_1 ++ []
def dkwX4_cost_0 : List UInt8 := [28, 42, 180, 0, 13, 161, 0, 7, 3, 167, 0, 34, 42, 180, 0, 29, 16, 7, 27, 104, 28, 96, 51]
abbrev dktX4_cost_0 : List UInt8 := dkwX4_cost_0 ++ dktX4_cost_1
theorem dksX4_cost_0 : cX4_cost.data.toList.drop 0 = dktX4_cost_0 := by decide +kernel
theorem dksX4_cost_1 : cX4_cost.data.toList.drop 23 = dktX4_cost_1 := dk_seg dksX4_cost_0 23 rfl rfl
theorem dX4_cost_0 : decode cX4_cost 0 = .ok (.iload_n 2, 1) := dk_28 (dk_at dksX4_cost_0 0 rfl rfl)
theorem dX4_cost_1 : decode cX4_cost 1 = .ok (.aload_n 0, 1) := dk_42 (dk_at dksX4_cost_0 1 rfl rfl)
theorem dX4_cost_2 : decode cX4_cost 2 = .ok (.getfield 13, 3) := dk_180 0 13 (dk_at dksX4_cost_0 2 rfl rfl)
theorem dX4_cost_5 : decode cX4_cost 5 = .ok (.if_icmp .lt 7, 3) := dk_161 0 7 (dk_at dksX4_cost_0 5 rfl rfl)
theorem dX4_cost_8 : decode cX4_cost 8 = .ok (.iconst 0, 1) := dk_3 (dk_at dksX4_cost_0 8 rfl rfl)
theorem dX4_cost_9 : decode cX4_cost 9 = .ok (.goto 34, 3) := dk_167 0 34 (dk_at dksX4_cost_0 9 rfl rfl)
theorem dX4_cost_12 : decode cX4_cost 12 = .ok (.aload_n 0, 1) := dk_42 (dk_at dksX4_cost_0 12 rfl rfl)
theorem dX4_cost_13 : decode cX4_cost 13 = .ok (.getfield 29, 3) := dk_180 0 29 (dk_at dksX4_cost_0 13 rfl rfl)
theorem dX4_cost_16 : decode cX4_cost 16 = .ok (.bipush 7, 2) := dk_16 7 (dk_at dksX4_cost_0 16 rfl rfl)
theorem dX4_cost_18 : decode cX4_cost 18 = .ok (.iload_n 1, 1) := dk_27 (dk_at dksX4_cost_0 18 rfl rfl)
theorem dX4_cost_19 : decode cX4_cost 19 = .ok (.imul, 1) := dk_104 (dk_at dksX4_cost_0 19 rfl rfl)
theorem dX4_cost_20 : decode cX4_cost 20 = .ok (.iload_n 2, 1) := dk_28 (dk_at dksX4_cost_0 20 rfl rfl)
theorem dX4_cost_21 : decode cX4_cost 21 = .ok (.iadd, 1) := dk_96 (dk_at dksX4_cost_0 21 rfl rfl)
theorem dX4_cost_22 : decode cX4_cost 22 = .ok (.baload, 1) := dk_51 (dk_at dksX4_cost_0 22 rfl rfl)
theorem dX4_cost_23 : decode cX4_cost 23 = .ok (.ifCond .eq 9, 3) := dk_153 0 9 (dk_at dksX4_cost_1 0 rfl rfl)
theorem dX4_cost_26 : decode cX4_cost 26 = .ok (.sipush 1000, 3) := dk_17 3 232 (dk_at dksX4_cost_1 3 rfl rfl)
theorem dX4_cost_29 : decode cX4_cost 29 = .ok (.goto 14, 3) := dk_167 0 14 (dk_at dksX4_cost_1 6 rfl rfl)
theorem dX4_cost_32 : decode cX4_cost 32 = .ok (.aload_n 0, 1) := dk_42 (dk_at dksX4_cost_1 9 rfl rfl)
theorem dX4_cost_33 : decode cX4_cost 33 = .ok (.getfield 22, 3) := dk_180 0 22 (dk_at dksX4_cost_1 10 rfl rfl)
theorem dX4_cost_36 : decode cX4_cost 36 = .ok (.bipush 7, 2) := dk_16 7 (dk_at dksX4_cost_1 13 rfl rfl)
theorem dX4_cost_38 : decode cX4_cost 38 = .ok (.iload_n 1, 1) := dk_27 (dk_at dksX4_cost_1 15 rfl rfl)
theorem dX4_cost_39 : decode cX4_cost 39 = .ok (.imul, 1) := dk_104 (dk_at dksX4_cost_1 16 rfl rfl)
theorem dX4_cost_40 : decode cX4_cost 40 = .ok (.iload_n 2, 1) := dk_28 (dk_at dksX4_cost_1 17 rfl rfl)
theorem dX4_cost_41 : decode cX4_cost 41 = .ok (.iadd, 1) := dk_96 (dk_at dksX4_cost_1 18 rfl rfl)
theorem dX4_cost_42 : decode cX4_cost 42 = .ok (.iaload, 1) := dk_46 (dk_at dksX4_cost_1 19 rfl rfl)
theorem dX4_cost_43 : decode cX4_cost 43 = .ok (.ireturn, 1) := dk_172 (dk_at dksX4_cost_1 20 rfl rfl)
abbrev cX4_addToRow : ByteArray := prog_7_method_31_code
def yX4_addToRow : MethodName := ⟨RX4, "addToRow", "(II)I"⟩
def dkwX4_addToRow_6 : List UInt8 := [46, 28, 96, 79, 132, 4, 1, 167, 255, 228, 42, 2, 181, 0, 48, 42, 27, 182, 0, 144, 172]
abbrev dktX4_addToRow_6 : List UInt8 := dkwX4_addToRow_6 ++ []
def dkwX4_addToRow_5 : List UInt8 := [3, 54, 4, 21, 4, 42, 180, 0, 13, 162, 0, 25, 42, 180, 0, 22, 16, 7, 27, 104, 21, 4, 96, 92]
abbrev dktX4_addToRow_5 : List UInt8 := dkwX4_addToRow_5 ++ dktX4_addToRow_6
def dkwX4_addToRow_4 : List UInt8 := [154, 0, 7, 5, 167, 0, 12, 29, 154, 0, 7, 6, 167, 0, 4, 3, 182, 0, 118, 153, 0, 5, 3, 172]
abbrev dktX4_addToRow_4 : List UInt8 := dkwX4_addToRow_4 ++ dktX4_addToRow_5
def dkwX4_addToRow_3 : List UInt8 := [42, 27, 182, 0, 122, 154, 0, 7, 4, 167, 0, 30, 28, 133, 20, 0, 138, 20, 0, 128, 184, 0, 63]
abbrev dktX4_addToRow_3 : List UInt8 := dkwX4_addToRow_3 ++ dktX4_addToRow_4
def dkwX4_addToRow_2 : List UInt8 := [180, 0, 13, 162, 0, 20, 29, 42, 27, 21, 4, 28, 182, 0, 140, 126, 62, 132, 4, 1, 167, 255, 211, 42]
abbrev dktX4_addToRow_2 : List UInt8 := dkwX4_addToRow_2 ++ dktX4_addToRow_3
def dkwX4_addToRow_1 : List UInt8 := [182, 0, 122, 153, 0, 43, 28, 133, 20, 0, 138, 20, 0, 128, 184, 0, 63, 153, 0, 29, 21, 4, 42]
abbrev dktX4_addToRow_1 : List UInt8 := dkwX4_addToRow_1 ++ dktX4_addToRow_2
def dkwX4_addToRow_0 : List UInt8 := [42, 180, 0, 13, 42, 180, 0, 7, 160, 0, 7, 4, 167, 0, 4, 3, 62, 3, 54, 4, 42, 27]
abbrev dktX4_addToRow_0 : List UInt8 := dkwX4_addToRow_0 ++ dktX4_addToRow_1
theorem dksX4_addToRow_0 : cX4_addToRow.data.toList.drop 0 = dktX4_addToRow_0 := by decide +kernel
theorem dksX4_addToRow_1 : cX4_addToRow.data.toList.drop 22 = dktX4_addToRow_1 := dk_seg dksX4_addToRow_0 22 rfl rfl
theorem dksX4_addToRow_2 : cX4_addToRow.data.toList.drop 45 = dktX4_addToRow_2 := dk_seg dksX4_addToRow_1 23 rfl rfl
theorem dksX4_addToRow_3 : cX4_addToRow.data.toList.drop 69 = dktX4_addToRow_3 := dk_seg dksX4_addToRow_2 24 rfl rfl
theorem dksX4_addToRow_4 : cX4_addToRow.data.toList.drop 92 = dktX4_addToRow_4 := dk_seg dksX4_addToRow_3 23 rfl rfl
theorem dksX4_addToRow_5 : cX4_addToRow.data.toList.drop 116 = dktX4_addToRow_5 := dk_seg dksX4_addToRow_4 24 rfl rfl
theorem dksX4_addToRow_6 : cX4_addToRow.data.toList.drop 140 = dktX4_addToRow_6 := dk_seg dksX4_addToRow_5 24 rfl rfl
theorem dX4_addToRow_0 : decode cX4_addToRow 0 = .ok (.aload_n 0, 1) := dk_42 (dk_at dksX4_addToRow_0 0 rfl rfl)
theorem dX4_addToRow_1 : decode cX4_addToRow 1 = .ok (.getfield 13, 3) := dk_180 0 13 (dk_at dksX4_addToRow_0 1 rfl rfl)
theorem dX4_addToRow_4 : decode cX4_addToRow 4 = .ok (.aload_n 0, 1) := dk_42 (dk_at dksX4_addToRow_0 4 rfl rfl)
theorem dX4_addToRow_5 : decode cX4_addToRow 5 = .ok (.getfield 7, 3) := dk_180 0 7 (dk_at dksX4_addToRow_0 5 rfl rfl)
theorem dX4_addToRow_8 : decode cX4_addToRow 8 = .ok (.if_icmp .ne 7, 3) := dk_160 0 7 (dk_at dksX4_addToRow_0 8 rfl rfl)
theorem dX4_addToRow_11 : decode cX4_addToRow 11 = .ok (.iconst 1, 1) := dk_4 (dk_at dksX4_addToRow_0 11 rfl rfl)
theorem dX4_addToRow_12 : decode cX4_addToRow 12 = .ok (.goto 4, 3) := dk_167 0 4 (dk_at dksX4_addToRow_0 12 rfl rfl)
theorem dX4_addToRow_15 : decode cX4_addToRow 15 = .ok (.iconst 0, 1) := dk_3 (dk_at dksX4_addToRow_0 15 rfl rfl)
theorem dX4_addToRow_16 : decode cX4_addToRow 16 = .ok (.istore_n 3, 1) := dk_62 (dk_at dksX4_addToRow_0 16 rfl rfl)
theorem dX4_addToRow_17 : decode cX4_addToRow 17 = .ok (.iconst 0, 1) := dk_3 (dk_at dksX4_addToRow_0 17 rfl rfl)
theorem dX4_addToRow_18 : decode cX4_addToRow 18 = .ok (.istore 4, 2) := dk_54 4 (dk_at dksX4_addToRow_0 18 rfl rfl)
theorem dX4_addToRow_20 : decode cX4_addToRow 20 = .ok (.aload_n 0, 1) := dk_42 (dk_at dksX4_addToRow_0 20 rfl rfl)
theorem dX4_addToRow_21 : decode cX4_addToRow 21 = .ok (.iload_n 1, 1) := dk_27 (dk_at dksX4_addToRow_0 21 rfl rfl)
theorem dX4_addToRow_22 : decode cX4_addToRow 22 = .ok (.invokevirtual 122, 3) := dk_182 0 122 (dk_at dksX4_addToRow_1 0 rfl rfl)
theorem dX4_addToRow_25 : decode cX4_addToRow 25 = .ok (.ifCond .eq 43, 3) := dk_153 0 43 (dk_at dksX4_addToRow_1 3 rfl rfl)
theorem dX4_addToRow_28 : decode cX4_addToRow 28 = .ok (.iload_n 2, 1) := dk_28 (dk_at dksX4_addToRow_1 6 rfl rfl)
theorem dX4_addToRow_29 : decode cX4_addToRow 29 = .ok (.i2l, 1) := dk_133 (dk_at dksX4_addToRow_1 7 rfl rfl)
theorem dX4_addToRow_30 : decode cX4_addToRow 30 = .ok (.ldc2_w 138, 3) := dk_20 0 138 (dk_at dksX4_addToRow_1 8 rfl rfl)
theorem dX4_addToRow_33 : decode cX4_addToRow 33 = .ok (.ldc2_w 128, 3) := dk_20 0 128 (dk_at dksX4_addToRow_1 11 rfl rfl)
theorem dX4_addToRow_36 : decode cX4_addToRow 36 = .ok (.invokestatic 63, 3) := dk_184 0 63 (dk_at dksX4_addToRow_1 14 rfl rfl)
theorem dX4_addToRow_39 : decode cX4_addToRow 39 = .ok (.ifCond .eq 29, 3) := dk_153 0 29 (dk_at dksX4_addToRow_1 17 rfl rfl)
theorem dX4_addToRow_42 : decode cX4_addToRow 42 = .ok (.iload 4, 2) := dk_21 4 (dk_at dksX4_addToRow_1 20 rfl rfl)
theorem dX4_addToRow_44 : decode cX4_addToRow 44 = .ok (.aload_n 0, 1) := dk_42 (dk_at dksX4_addToRow_1 22 rfl rfl)
theorem dX4_addToRow_45 : decode cX4_addToRow 45 = .ok (.getfield 13, 3) := dk_180 0 13 (dk_at dksX4_addToRow_2 0 rfl rfl)
theorem dX4_addToRow_48 : decode cX4_addToRow 48 = .ok (.if_icmp .ge 20, 3) := dk_162 0 20 (dk_at dksX4_addToRow_2 3 rfl rfl)
theorem dX4_addToRow_51 : decode cX4_addToRow 51 = .ok (.iload_n 3, 1) := dk_29 (dk_at dksX4_addToRow_2 6 rfl rfl)
theorem dX4_addToRow_52 : decode cX4_addToRow 52 = .ok (.aload_n 0, 1) := dk_42 (dk_at dksX4_addToRow_2 7 rfl rfl)
theorem dX4_addToRow_53 : decode cX4_addToRow 53 = .ok (.iload_n 1, 1) := dk_27 (dk_at dksX4_addToRow_2 8 rfl rfl)
theorem dX4_addToRow_54 : decode cX4_addToRow 54 = .ok (.iload 4, 2) := dk_21 4 (dk_at dksX4_addToRow_2 9 rfl rfl)
theorem dX4_addToRow_56 : decode cX4_addToRow 56 = .ok (.iload_n 2, 1) := dk_28 (dk_at dksX4_addToRow_2 11 rfl rfl)
theorem dX4_addToRow_57 : decode cX4_addToRow 57 = .ok (.invokevirtual 140, 3) := dk_182 0 140 (dk_at dksX4_addToRow_2 12 rfl rfl)
theorem dX4_addToRow_60 : decode cX4_addToRow 60 = .ok (.iand, 1) := dk_126 (dk_at dksX4_addToRow_2 15 rfl rfl)
theorem dX4_addToRow_61 : decode cX4_addToRow 61 = .ok (.istore_n 3, 1) := dk_62 (dk_at dksX4_addToRow_2 16 rfl rfl)
theorem dX4_addToRow_62 : decode cX4_addToRow 62 = .ok (.iinc 4 1, 3) := dk_132 4 1 (dk_at dksX4_addToRow_2 17 rfl rfl)
theorem dX4_addToRow_65 : decode cX4_addToRow 65 = .ok (.goto (-45), 3) := dk_167 255 211 (dk_at dksX4_addToRow_2 20 rfl rfl)
theorem dX4_addToRow_68 : decode cX4_addToRow 68 = .ok (.aload_n 0, 1) := dk_42 (dk_at dksX4_addToRow_2 23 rfl rfl)
theorem dX4_addToRow_69 : decode cX4_addToRow 69 = .ok (.aload_n 0, 1) := dk_42 (dk_at dksX4_addToRow_3 0 rfl rfl)
theorem dX4_addToRow_70 : decode cX4_addToRow 70 = .ok (.iload_n 1, 1) := dk_27 (dk_at dksX4_addToRow_3 1 rfl rfl)
theorem dX4_addToRow_71 : decode cX4_addToRow 71 = .ok (.invokevirtual 122, 3) := dk_182 0 122 (dk_at dksX4_addToRow_3 2 rfl rfl)
theorem dX4_addToRow_74 : decode cX4_addToRow 74 = .ok (.ifCond .ne 7, 3) := dk_154 0 7 (dk_at dksX4_addToRow_3 5 rfl rfl)
theorem dX4_addToRow_77 : decode cX4_addToRow 77 = .ok (.iconst 1, 1) := dk_4 (dk_at dksX4_addToRow_3 8 rfl rfl)
theorem dX4_addToRow_78 : decode cX4_addToRow 78 = .ok (.goto 30, 3) := dk_167 0 30 (dk_at dksX4_addToRow_3 9 rfl rfl)
theorem dX4_addToRow_81 : decode cX4_addToRow 81 = .ok (.iload_n 2, 1) := dk_28 (dk_at dksX4_addToRow_3 12 rfl rfl)
theorem dX4_addToRow_82 : decode cX4_addToRow 82 = .ok (.i2l, 1) := dk_133 (dk_at dksX4_addToRow_3 13 rfl rfl)
theorem dX4_addToRow_83 : decode cX4_addToRow 83 = .ok (.ldc2_w 138, 3) := dk_20 0 138 (dk_at dksX4_addToRow_3 14 rfl rfl)
theorem dX4_addToRow_86 : decode cX4_addToRow 86 = .ok (.ldc2_w 128, 3) := dk_20 0 128 (dk_at dksX4_addToRow_3 17 rfl rfl)
theorem dX4_addToRow_89 : decode cX4_addToRow 89 = .ok (.invokestatic 63, 3) := dk_184 0 63 (dk_at dksX4_addToRow_3 20 rfl rfl)
theorem dX4_addToRow_92 : decode cX4_addToRow 92 = .ok (.ifCond .ne 7, 3) := dk_154 0 7 (dk_at dksX4_addToRow_4 0 rfl rfl)
theorem dX4_addToRow_95 : decode cX4_addToRow 95 = .ok (.iconst 2, 1) := dk_5 (dk_at dksX4_addToRow_4 3 rfl rfl)
theorem dX4_addToRow_96 : decode cX4_addToRow 96 = .ok (.goto 12, 3) := dk_167 0 12 (dk_at dksX4_addToRow_4 4 rfl rfl)
theorem dX4_addToRow_99 : decode cX4_addToRow 99 = .ok (.iload_n 3, 1) := dk_29 (dk_at dksX4_addToRow_4 7 rfl rfl)
theorem dX4_addToRow_100 : decode cX4_addToRow 100 = .ok (.ifCond .ne 7, 3) := dk_154 0 7 (dk_at dksX4_addToRow_4 8 rfl rfl)
theorem dX4_addToRow_103 : decode cX4_addToRow 103 = .ok (.iconst 3, 1) := dk_6 (dk_at dksX4_addToRow_4 11 rfl rfl)
theorem dX4_addToRow_104 : decode cX4_addToRow 104 = .ok (.goto 4, 3) := dk_167 0 4 (dk_at dksX4_addToRow_4 12 rfl rfl)
theorem dX4_addToRow_107 : decode cX4_addToRow 107 = .ok (.iconst 0, 1) := dk_3 (dk_at dksX4_addToRow_4 15 rfl rfl)
theorem dX4_addToRow_108 : decode cX4_addToRow 108 = .ok (.invokevirtual 118, 3) := dk_182 0 118 (dk_at dksX4_addToRow_4 16 rfl rfl)
theorem dX4_addToRow_111 : decode cX4_addToRow 111 = .ok (.ifCond .eq 5, 3) := dk_153 0 5 (dk_at dksX4_addToRow_4 19 rfl rfl)
theorem dX4_addToRow_114 : decode cX4_addToRow 114 = .ok (.iconst 0, 1) := dk_3 (dk_at dksX4_addToRow_4 22 rfl rfl)
theorem dX4_addToRow_115 : decode cX4_addToRow 115 = .ok (.ireturn, 1) := dk_172 (dk_at dksX4_addToRow_4 23 rfl rfl)
theorem dX4_addToRow_116 : decode cX4_addToRow 116 = .ok (.iconst 0, 1) := dk_3 (dk_at dksX4_addToRow_5 0 rfl rfl)
theorem dX4_addToRow_117 : decode cX4_addToRow 117 = .ok (.istore 4, 2) := dk_54 4 (dk_at dksX4_addToRow_5 1 rfl rfl)
theorem dX4_addToRow_119 : decode cX4_addToRow 119 = .ok (.iload 4, 2) := dk_21 4 (dk_at dksX4_addToRow_5 3 rfl rfl)
theorem dX4_addToRow_121 : decode cX4_addToRow 121 = .ok (.aload_n 0, 1) := dk_42 (dk_at dksX4_addToRow_5 5 rfl rfl)
theorem dX4_addToRow_122 : decode cX4_addToRow 122 = .ok (.getfield 13, 3) := dk_180 0 13 (dk_at dksX4_addToRow_5 6 rfl rfl)
theorem dX4_addToRow_125 : decode cX4_addToRow 125 = .ok (.if_icmp .ge 25, 3) := dk_162 0 25 (dk_at dksX4_addToRow_5 9 rfl rfl)
theorem dX4_addToRow_128 : decode cX4_addToRow 128 = .ok (.aload_n 0, 1) := dk_42 (dk_at dksX4_addToRow_5 12 rfl rfl)
theorem dX4_addToRow_129 : decode cX4_addToRow 129 = .ok (.getfield 22, 3) := dk_180 0 22 (dk_at dksX4_addToRow_5 13 rfl rfl)
theorem dX4_addToRow_132 : decode cX4_addToRow 132 = .ok (.bipush 7, 2) := dk_16 7 (dk_at dksX4_addToRow_5 16 rfl rfl)
theorem dX4_addToRow_134 : decode cX4_addToRow 134 = .ok (.iload_n 1, 1) := dk_27 (dk_at dksX4_addToRow_5 18 rfl rfl)
theorem dX4_addToRow_135 : decode cX4_addToRow 135 = .ok (.imul, 1) := dk_104 (dk_at dksX4_addToRow_5 19 rfl rfl)
theorem dX4_addToRow_136 : decode cX4_addToRow 136 = .ok (.iload 4, 2) := dk_21 4 (dk_at dksX4_addToRow_5 20 rfl rfl)
theorem dX4_addToRow_138 : decode cX4_addToRow 138 = .ok (.iadd, 1) := dk_96 (dk_at dksX4_addToRow_5 22 rfl rfl)
theorem dX4_addToRow_139 : decode cX4_addToRow 139 = .ok (.dup2, 1) := dk_92 (dk_at dksX4_addToRow_5 23 rfl rfl)
theorem dX4_addToRow_140 : decode cX4_addToRow 140 = .ok (.iaload, 1) := dk_46 (dk_at dksX4_addToRow_6 0 rfl rfl)
theorem dX4_addToRow_141 : decode cX4_addToRow 141 = .ok (.iload_n 2, 1) := dk_28 (dk_at dksX4_addToRow_6 1 rfl rfl)
theorem dX4_addToRow_142 : decode cX4_addToRow 142 = .ok (.iadd, 1) := dk_96 (dk_at dksX4_addToRow_6 2 rfl rfl)
theorem dX4_addToRow_143 : decode cX4_addToRow 143 = .ok (.iastore, 1) := dk_79 (dk_at dksX4_addToRow_6 3 rfl rfl)
theorem dX4_addToRow_144 : decode cX4_addToRow 144 = .ok (.iinc 4 1, 3) := dk_132 4 1 (dk_at dksX4_addToRow_6 4 rfl rfl)
theorem dX4_addToRow_147 : decode cX4_addToRow 147 = .ok (.goto (-28), 3) := dk_167 255 228 (dk_at dksX4_addToRow_6 7 rfl rfl)
theorem dX4_addToRow_150 : decode cX4_addToRow 150 = .ok (.aload_n 0, 1) := dk_42 (dk_at dksX4_addToRow_6 10 rfl rfl)
theorem dX4_addToRow_151 : decode cX4_addToRow 151 = .ok (.iconst (-1), 1) := dk_2 (dk_at dksX4_addToRow_6 11 rfl rfl)
theorem dX4_addToRow_152 : decode cX4_addToRow 152 = .ok (.putfield 48, 3) := dk_181 0 48 (dk_at dksX4_addToRow_6 12 rfl rfl)
theorem dX4_addToRow_155 : decode cX4_addToRow 155 = .ok (.aload_n 0, 1) := dk_42 (dk_at dksX4_addToRow_6 15 rfl rfl)
theorem dX4_addToRow_156 : decode cX4_addToRow 156 = .ok (.iload_n 1, 1) := dk_27 (dk_at dksX4_addToRow_6 16 rfl rfl)
theorem dX4_addToRow_157 : decode cX4_addToRow 157 = .ok (.invokevirtual 144, 3) := dk_182 0 144 (dk_at dksX4_addToRow_6 17 rfl rfl)
theorem dX4_addToRow_160 : decode cX4_addToRow 160 = .ok (.ireturn, 1) := dk_172 (dk_at dksX4_addToRow_6 20 rfl rfl)
abbrev cX4_takes : ByteArray := prog_7_method_30_code
def yX4_takes : MethodName := ⟨RX4, "takes", "(III)Z"⟩
def dkwX4_takes_1 : List UInt8 := [46, 29, 96, 133, 9, 20, 0, 128, 184, 0, 63, 153, 0, 7, 4, 167, 0, 4, 3, 172]
abbrev dktX4_takes_1 : List UInt8 := dkwX4_takes_1 ++ []
def dkwX4_takes_0 : List UInt8 := [42, 180, 0, 29, 16, 7, 27, 104, 28, 96, 51, 154, 0, 31, 42, 180, 0, 22, 16, 7, 27, 104, 28, 96]
abbrev dktX4_takes_0 : List UInt8 := dkwX4_takes_0 ++ dktX4_takes_1
theorem dksX4_takes_0 : cX4_takes.data.toList.drop 0 = dktX4_takes_0 := by decide +kernel
theorem dksX4_takes_1 : cX4_takes.data.toList.drop 24 = dktX4_takes_1 := dk_seg dksX4_takes_0 24 rfl rfl
theorem dX4_takes_0 : decode cX4_takes 0 = .ok (.aload_n 0, 1) := dk_42 (dk_at dksX4_takes_0 0 rfl rfl)
theorem dX4_takes_1 : decode cX4_takes 1 = .ok (.getfield 29, 3) := dk_180 0 29 (dk_at dksX4_takes_0 1 rfl rfl)
theorem dX4_takes_4 : decode cX4_takes 4 = .ok (.bipush 7, 2) := dk_16 7 (dk_at dksX4_takes_0 4 rfl rfl)
theorem dX4_takes_6 : decode cX4_takes 6 = .ok (.iload_n 1, 1) := dk_27 (dk_at dksX4_takes_0 6 rfl rfl)
theorem dX4_takes_7 : decode cX4_takes 7 = .ok (.imul, 1) := dk_104 (dk_at dksX4_takes_0 7 rfl rfl)
theorem dX4_takes_8 : decode cX4_takes 8 = .ok (.iload_n 2, 1) := dk_28 (dk_at dksX4_takes_0 8 rfl rfl)
theorem dX4_takes_9 : decode cX4_takes 9 = .ok (.iadd, 1) := dk_96 (dk_at dksX4_takes_0 9 rfl rfl)
theorem dX4_takes_10 : decode cX4_takes 10 = .ok (.baload, 1) := dk_51 (dk_at dksX4_takes_0 10 rfl rfl)
theorem dX4_takes_11 : decode cX4_takes 11 = .ok (.ifCond .ne 31, 3) := dk_154 0 31 (dk_at dksX4_takes_0 11 rfl rfl)
theorem dX4_takes_14 : decode cX4_takes 14 = .ok (.aload_n 0, 1) := dk_42 (dk_at dksX4_takes_0 14 rfl rfl)
theorem dX4_takes_15 : decode cX4_takes 15 = .ok (.getfield 22, 3) := dk_180 0 22 (dk_at dksX4_takes_0 15 rfl rfl)
theorem dX4_takes_18 : decode cX4_takes 18 = .ok (.bipush 7, 2) := dk_16 7 (dk_at dksX4_takes_0 18 rfl rfl)
theorem dX4_takes_20 : decode cX4_takes 20 = .ok (.iload_n 1, 1) := dk_27 (dk_at dksX4_takes_0 20 rfl rfl)
theorem dX4_takes_21 : decode cX4_takes 21 = .ok (.imul, 1) := dk_104 (dk_at dksX4_takes_0 21 rfl rfl)
theorem dX4_takes_22 : decode cX4_takes 22 = .ok (.iload_n 2, 1) := dk_28 (dk_at dksX4_takes_0 22 rfl rfl)
theorem dX4_takes_23 : decode cX4_takes 23 = .ok (.iadd, 1) := dk_96 (dk_at dksX4_takes_0 23 rfl rfl)
theorem dX4_takes_24 : decode cX4_takes 24 = .ok (.iaload, 1) := dk_46 (dk_at dksX4_takes_1 0 rfl rfl)
theorem dX4_takes_25 : decode cX4_takes 25 = .ok (.iload_n 3, 1) := dk_29 (dk_at dksX4_takes_1 1 rfl rfl)
theorem dX4_takes_26 : decode cX4_takes 26 = .ok (.iadd, 1) := dk_96 (dk_at dksX4_takes_1 2 rfl rfl)
theorem dX4_takes_27 : decode cX4_takes 27 = .ok (.i2l, 1) := dk_133 (dk_at dksX4_takes_1 3 rfl rfl)
theorem dX4_takes_28 : decode cX4_takes 28 = .ok (.lconst 0, 1) := dk_9 (dk_at dksX4_takes_1 4 rfl rfl)
theorem dX4_takes_29 : decode cX4_takes 29 = .ok (.ldc2_w 128, 3) := dk_20 0 128 (dk_at dksX4_takes_1 5 rfl rfl)
theorem dX4_takes_32 : decode cX4_takes 32 = .ok (.invokestatic 63, 3) := dk_184 0 63 (dk_at dksX4_takes_1 8 rfl rfl)
theorem dX4_takes_35 : decode cX4_takes 35 = .ok (.ifCond .eq 7, 3) := dk_153 0 7 (dk_at dksX4_takes_1 11 rfl rfl)
theorem dX4_takes_38 : decode cX4_takes 38 = .ok (.iconst 1, 1) := dk_4 (dk_at dksX4_takes_1 14 rfl rfl)
theorem dX4_takes_39 : decode cX4_takes 39 = .ok (.goto 4, 3) := dk_167 0 4 (dk_at dksX4_takes_1 15 rfl rfl)
theorem dX4_takes_42 : decode cX4_takes 42 = .ok (.iconst 0, 1) := dk_3 (dk_at dksX4_takes_1 18 rfl rfl)
theorem dX4_takes_43 : decode cX4_takes 43 = .ok (.ireturn, 1) := dk_172 (dk_at dksX4_takes_1 19 rfl rfl)
abbrev cX4_rowSum : ByteArray := prog_7_method_28_code
def yX4_rowSum : MethodName := ⟨RX4, "rowSum", "(I)I"⟩
def dkwX4_rowSum_1 : List UInt8 := [167, 255, 236, 28, 172]
abbrev dktX4_rowSum_1 : List UInt8 := dkwX4_rowSum_1 ++ []
def dkwX4_rowSum_0 : List UInt8 := [3, 61, 3, 62, 29, 42, 180, 0, 7, 162, 0, 18, 28, 42, 27, 29, 182, 0, 75, 96, 61, 132, 3, 1]
abbrev dktX4_rowSum_0 : List UInt8 := dkwX4_rowSum_0 ++ dktX4_rowSum_1
theorem dksX4_rowSum_0 : cX4_rowSum.data.toList.drop 0 = dktX4_rowSum_0 := by decide +kernel
theorem dksX4_rowSum_1 : cX4_rowSum.data.toList.drop 24 = dktX4_rowSum_1 := dk_seg dksX4_rowSum_0 24 rfl rfl
theorem dX4_rowSum_0 : decode cX4_rowSum 0 = .ok (.iconst 0, 1) := dk_3 (dk_at dksX4_rowSum_0 0 rfl rfl)
theorem dX4_rowSum_1 : decode cX4_rowSum 1 = .ok (.istore_n 2, 1) := dk_61 (dk_at dksX4_rowSum_0 1 rfl rfl)
theorem dX4_rowSum_2 : decode cX4_rowSum 2 = .ok (.iconst 0, 1) := dk_3 (dk_at dksX4_rowSum_0 2 rfl rfl)
theorem dX4_rowSum_3 : decode cX4_rowSum 3 = .ok (.istore_n 3, 1) := dk_62 (dk_at dksX4_rowSum_0 3 rfl rfl)
theorem dX4_rowSum_4 : decode cX4_rowSum 4 = .ok (.iload_n 3, 1) := dk_29 (dk_at dksX4_rowSum_0 4 rfl rfl)
theorem dX4_rowSum_5 : decode cX4_rowSum 5 = .ok (.aload_n 0, 1) := dk_42 (dk_at dksX4_rowSum_0 5 rfl rfl)
theorem dX4_rowSum_6 : decode cX4_rowSum 6 = .ok (.getfield 7, 3) := dk_180 0 7 (dk_at dksX4_rowSum_0 6 rfl rfl)
theorem dX4_rowSum_9 : decode cX4_rowSum 9 = .ok (.if_icmp .ge 18, 3) := dk_162 0 18 (dk_at dksX4_rowSum_0 9 rfl rfl)
theorem dX4_rowSum_12 : decode cX4_rowSum 12 = .ok (.iload_n 2, 1) := dk_28 (dk_at dksX4_rowSum_0 12 rfl rfl)
theorem dX4_rowSum_13 : decode cX4_rowSum 13 = .ok (.aload_n 0, 1) := dk_42 (dk_at dksX4_rowSum_0 13 rfl rfl)
theorem dX4_rowSum_14 : decode cX4_rowSum 14 = .ok (.iload_n 1, 1) := dk_27 (dk_at dksX4_rowSum_0 14 rfl rfl)
theorem dX4_rowSum_15 : decode cX4_rowSum 15 = .ok (.iload_n 3, 1) := dk_29 (dk_at dksX4_rowSum_0 15 rfl rfl)
theorem dX4_rowSum_16 : decode cX4_rowSum 16 = .ok (.invokevirtual 75, 3) := dk_182 0 75 (dk_at dksX4_rowSum_0 16 rfl rfl)
theorem dX4_rowSum_19 : decode cX4_rowSum 19 = .ok (.iadd, 1) := dk_96 (dk_at dksX4_rowSum_0 19 rfl rfl)
theorem dX4_rowSum_20 : decode cX4_rowSum 20 = .ok (.istore_n 2, 1) := dk_61 (dk_at dksX4_rowSum_0 20 rfl rfl)
theorem dX4_rowSum_21 : decode cX4_rowSum 21 = .ok (.iinc 3 1, 3) := dk_132 3 1 (dk_at dksX4_rowSum_0 21 rfl rfl)
theorem dX4_rowSum_24 : decode cX4_rowSum 24 = .ok (.goto (-20), 3) := dk_167 255 236 (dk_at dksX4_rowSum_1 0 rfl rfl)
theorem dX4_rowSum_27 : decode cX4_rowSum 27 = .ok (.iload_n 2, 1) := dk_28 (dk_at dksX4_rowSum_1 3 rfl rfl)
theorem dX4_rowSum_28 : decode cX4_rowSum 28 = .ok (.ireturn, 1) := dk_172 (dk_at dksX4_rowSum_1 4 rfl rfl)
abbrev cX4_addToColumn : ByteArray := prog_7_method_32_code
def yX4_addToColumn : MethodName := ⟨RX4, "addToColumn", "(II)I"⟩
def dkwX4_addToColumn_6 : List UInt8 := [27, 182, 0, 147, 172]
abbrev dktX4_addToColumn_6 : List UInt8 := dkwX4_addToColumn_6 ++ []
def dkwX4_addToColumn_5 : List UInt8 := [16, 7, 21, 4, 104, 27, 96, 92, 46, 28, 96, 79, 132, 4, 1, 167, 255, 228, 42, 2, 181, 0, 48, 42]
abbrev dktX4_addToColumn_5 : List UInt8 := dkwX4_addToColumn_5 ++ dktX4_addToColumn_6
def dkwX4_addToColumn_4 : List UInt8 := [182, 0, 118, 153, 0, 5, 3, 172, 3, 54, 4, 21, 4, 42, 180, 0, 7, 162, 0, 25, 42, 180, 0, 22]
abbrev dktX4_addToColumn_4 : List UInt8 := dkwX4_addToColumn_4 ++ dktX4_addToColumn_5
def dkwX4_addToColumn_3 : List UInt8 := [20, 0, 128, 184, 0, 63, 154, 0, 7, 5, 167, 0, 12, 29, 154, 0, 7, 6, 167, 0, 4, 3]
abbrev dktX4_addToColumn_3 : List UInt8 := dkwX4_addToColumn_3 ++ dktX4_addToColumn_4
def dkwX4_addToColumn_2 : List UInt8 := [132, 4, 1, 167, 255, 211, 42, 42, 27, 182, 0, 125, 154, 0, 7, 4, 167, 0, 30, 28, 133, 20, 0, 138]
abbrev dktX4_addToColumn_2 : List UInt8 := dkwX4_addToColumn_2 ++ dktX4_addToColumn_3
def dkwX4_addToColumn_1 : List UInt8 := [153, 0, 29, 21, 4, 42, 180, 0, 7, 162, 0, 20, 29, 42, 21, 4, 27, 28, 182, 0, 140, 126, 62]
abbrev dktX4_addToColumn_1 : List UInt8 := dkwX4_addToColumn_1 ++ dktX4_addToColumn_2
def dkwX4_addToColumn_0 : List UInt8 := [4, 62, 3, 54, 4, 42, 27, 182, 0, 125, 153, 0, 43, 28, 133, 20, 0, 138, 20, 0, 128, 184, 0, 63]
abbrev dktX4_addToColumn_0 : List UInt8 := dkwX4_addToColumn_0 ++ dktX4_addToColumn_1
theorem dksX4_addToColumn_0 : cX4_addToColumn.data.toList.drop 0 = dktX4_addToColumn_0 := by decide +kernel
theorem dksX4_addToColumn_1 : cX4_addToColumn.data.toList.drop 24 = dktX4_addToColumn_1 := dk_seg dksX4_addToColumn_0 24 rfl rfl
theorem dksX4_addToColumn_2 : cX4_addToColumn.data.toList.drop 47 = dktX4_addToColumn_2 := dk_seg dksX4_addToColumn_1 23 rfl rfl
theorem dksX4_addToColumn_3 : cX4_addToColumn.data.toList.drop 71 = dktX4_addToColumn_3 := dk_seg dksX4_addToColumn_2 24 rfl rfl
theorem dksX4_addToColumn_4 : cX4_addToColumn.data.toList.drop 93 = dktX4_addToColumn_4 := dk_seg dksX4_addToColumn_3 22 rfl rfl
theorem dksX4_addToColumn_5 : cX4_addToColumn.data.toList.drop 117 = dktX4_addToColumn_5 := dk_seg dksX4_addToColumn_4 24 rfl rfl
theorem dksX4_addToColumn_6 : cX4_addToColumn.data.toList.drop 141 = dktX4_addToColumn_6 := dk_seg dksX4_addToColumn_5 24 rfl rfl
theorem dX4_addToColumn_0 : decode cX4_addToColumn 0 = .ok (.iconst 1, 1) := dk_4 (dk_at dksX4_addToColumn_0 0 rfl rfl)
theorem dX4_addToColumn_1 : decode cX4_addToColumn 1 = .ok (.istore_n 3, 1) := dk_62 (dk_at dksX4_addToColumn_0 1 rfl rfl)
theorem dX4_addToColumn_2 : decode cX4_addToColumn 2 = .ok (.iconst 0, 1) := dk_3 (dk_at dksX4_addToColumn_0 2 rfl rfl)
theorem dX4_addToColumn_3 : decode cX4_addToColumn 3 = .ok (.istore 4, 2) := dk_54 4 (dk_at dksX4_addToColumn_0 3 rfl rfl)
theorem dX4_addToColumn_5 : decode cX4_addToColumn 5 = .ok (.aload_n 0, 1) := dk_42 (dk_at dksX4_addToColumn_0 5 rfl rfl)
theorem dX4_addToColumn_6 : decode cX4_addToColumn 6 = .ok (.iload_n 1, 1) := dk_27 (dk_at dksX4_addToColumn_0 6 rfl rfl)
theorem dX4_addToColumn_7 : decode cX4_addToColumn 7 = .ok (.invokevirtual 125, 3) := dk_182 0 125 (dk_at dksX4_addToColumn_0 7 rfl rfl)
theorem dX4_addToColumn_10 : decode cX4_addToColumn 10 = .ok (.ifCond .eq 43, 3) := dk_153 0 43 (dk_at dksX4_addToColumn_0 10 rfl rfl)
theorem dX4_addToColumn_13 : decode cX4_addToColumn 13 = .ok (.iload_n 2, 1) := dk_28 (dk_at dksX4_addToColumn_0 13 rfl rfl)
theorem dX4_addToColumn_14 : decode cX4_addToColumn 14 = .ok (.i2l, 1) := dk_133 (dk_at dksX4_addToColumn_0 14 rfl rfl)
theorem dX4_addToColumn_15 : decode cX4_addToColumn 15 = .ok (.ldc2_w 138, 3) := dk_20 0 138 (dk_at dksX4_addToColumn_0 15 rfl rfl)
theorem dX4_addToColumn_18 : decode cX4_addToColumn 18 = .ok (.ldc2_w 128, 3) := dk_20 0 128 (dk_at dksX4_addToColumn_0 18 rfl rfl)
theorem dX4_addToColumn_21 : decode cX4_addToColumn 21 = .ok (.invokestatic 63, 3) := dk_184 0 63 (dk_at dksX4_addToColumn_0 21 rfl rfl)
theorem dX4_addToColumn_24 : decode cX4_addToColumn 24 = .ok (.ifCond .eq 29, 3) := dk_153 0 29 (dk_at dksX4_addToColumn_1 0 rfl rfl)
theorem dX4_addToColumn_27 : decode cX4_addToColumn 27 = .ok (.iload 4, 2) := dk_21 4 (dk_at dksX4_addToColumn_1 3 rfl rfl)
theorem dX4_addToColumn_29 : decode cX4_addToColumn 29 = .ok (.aload_n 0, 1) := dk_42 (dk_at dksX4_addToColumn_1 5 rfl rfl)
theorem dX4_addToColumn_30 : decode cX4_addToColumn 30 = .ok (.getfield 7, 3) := dk_180 0 7 (dk_at dksX4_addToColumn_1 6 rfl rfl)
theorem dX4_addToColumn_33 : decode cX4_addToColumn 33 = .ok (.if_icmp .ge 20, 3) := dk_162 0 20 (dk_at dksX4_addToColumn_1 9 rfl rfl)
theorem dX4_addToColumn_36 : decode cX4_addToColumn 36 = .ok (.iload_n 3, 1) := dk_29 (dk_at dksX4_addToColumn_1 12 rfl rfl)
theorem dX4_addToColumn_37 : decode cX4_addToColumn 37 = .ok (.aload_n 0, 1) := dk_42 (dk_at dksX4_addToColumn_1 13 rfl rfl)
theorem dX4_addToColumn_38 : decode cX4_addToColumn 38 = .ok (.iload 4, 2) := dk_21 4 (dk_at dksX4_addToColumn_1 14 rfl rfl)
theorem dX4_addToColumn_40 : decode cX4_addToColumn 40 = .ok (.iload_n 1, 1) := dk_27 (dk_at dksX4_addToColumn_1 16 rfl rfl)
theorem dX4_addToColumn_41 : decode cX4_addToColumn 41 = .ok (.iload_n 2, 1) := dk_28 (dk_at dksX4_addToColumn_1 17 rfl rfl)
theorem dX4_addToColumn_42 : decode cX4_addToColumn 42 = .ok (.invokevirtual 140, 3) := dk_182 0 140 (dk_at dksX4_addToColumn_1 18 rfl rfl)
theorem dX4_addToColumn_45 : decode cX4_addToColumn 45 = .ok (.iand, 1) := dk_126 (dk_at dksX4_addToColumn_1 21 rfl rfl)
theorem dX4_addToColumn_46 : decode cX4_addToColumn 46 = .ok (.istore_n 3, 1) := dk_62 (dk_at dksX4_addToColumn_1 22 rfl rfl)
theorem dX4_addToColumn_47 : decode cX4_addToColumn 47 = .ok (.iinc 4 1, 3) := dk_132 4 1 (dk_at dksX4_addToColumn_2 0 rfl rfl)
theorem dX4_addToColumn_50 : decode cX4_addToColumn 50 = .ok (.goto (-45), 3) := dk_167 255 211 (dk_at dksX4_addToColumn_2 3 rfl rfl)
theorem dX4_addToColumn_53 : decode cX4_addToColumn 53 = .ok (.aload_n 0, 1) := dk_42 (dk_at dksX4_addToColumn_2 6 rfl rfl)
theorem dX4_addToColumn_54 : decode cX4_addToColumn 54 = .ok (.aload_n 0, 1) := dk_42 (dk_at dksX4_addToColumn_2 7 rfl rfl)
theorem dX4_addToColumn_55 : decode cX4_addToColumn 55 = .ok (.iload_n 1, 1) := dk_27 (dk_at dksX4_addToColumn_2 8 rfl rfl)
theorem dX4_addToColumn_56 : decode cX4_addToColumn 56 = .ok (.invokevirtual 125, 3) := dk_182 0 125 (dk_at dksX4_addToColumn_2 9 rfl rfl)
theorem dX4_addToColumn_59 : decode cX4_addToColumn 59 = .ok (.ifCond .ne 7, 3) := dk_154 0 7 (dk_at dksX4_addToColumn_2 12 rfl rfl)
theorem dX4_addToColumn_62 : decode cX4_addToColumn 62 = .ok (.iconst 1, 1) := dk_4 (dk_at dksX4_addToColumn_2 15 rfl rfl)
theorem dX4_addToColumn_63 : decode cX4_addToColumn 63 = .ok (.goto 30, 3) := dk_167 0 30 (dk_at dksX4_addToColumn_2 16 rfl rfl)
theorem dX4_addToColumn_66 : decode cX4_addToColumn 66 = .ok (.iload_n 2, 1) := dk_28 (dk_at dksX4_addToColumn_2 19 rfl rfl)
theorem dX4_addToColumn_67 : decode cX4_addToColumn 67 = .ok (.i2l, 1) := dk_133 (dk_at dksX4_addToColumn_2 20 rfl rfl)
theorem dX4_addToColumn_68 : decode cX4_addToColumn 68 = .ok (.ldc2_w 138, 3) := dk_20 0 138 (dk_at dksX4_addToColumn_2 21 rfl rfl)
theorem dX4_addToColumn_71 : decode cX4_addToColumn 71 = .ok (.ldc2_w 128, 3) := dk_20 0 128 (dk_at dksX4_addToColumn_3 0 rfl rfl)
theorem dX4_addToColumn_74 : decode cX4_addToColumn 74 = .ok (.invokestatic 63, 3) := dk_184 0 63 (dk_at dksX4_addToColumn_3 3 rfl rfl)
theorem dX4_addToColumn_77 : decode cX4_addToColumn 77 = .ok (.ifCond .ne 7, 3) := dk_154 0 7 (dk_at dksX4_addToColumn_3 6 rfl rfl)
theorem dX4_addToColumn_80 : decode cX4_addToColumn 80 = .ok (.iconst 2, 1) := dk_5 (dk_at dksX4_addToColumn_3 9 rfl rfl)
theorem dX4_addToColumn_81 : decode cX4_addToColumn 81 = .ok (.goto 12, 3) := dk_167 0 12 (dk_at dksX4_addToColumn_3 10 rfl rfl)
theorem dX4_addToColumn_84 : decode cX4_addToColumn 84 = .ok (.iload_n 3, 1) := dk_29 (dk_at dksX4_addToColumn_3 13 rfl rfl)
theorem dX4_addToColumn_85 : decode cX4_addToColumn 85 = .ok (.ifCond .ne 7, 3) := dk_154 0 7 (dk_at dksX4_addToColumn_3 14 rfl rfl)
theorem dX4_addToColumn_88 : decode cX4_addToColumn 88 = .ok (.iconst 3, 1) := dk_6 (dk_at dksX4_addToColumn_3 17 rfl rfl)
theorem dX4_addToColumn_89 : decode cX4_addToColumn 89 = .ok (.goto 4, 3) := dk_167 0 4 (dk_at dksX4_addToColumn_3 18 rfl rfl)
theorem dX4_addToColumn_92 : decode cX4_addToColumn 92 = .ok (.iconst 0, 1) := dk_3 (dk_at dksX4_addToColumn_3 21 rfl rfl)
theorem dX4_addToColumn_93 : decode cX4_addToColumn 93 = .ok (.invokevirtual 118, 3) := dk_182 0 118 (dk_at dksX4_addToColumn_4 0 rfl rfl)
theorem dX4_addToColumn_96 : decode cX4_addToColumn 96 = .ok (.ifCond .eq 5, 3) := dk_153 0 5 (dk_at dksX4_addToColumn_4 3 rfl rfl)
theorem dX4_addToColumn_99 : decode cX4_addToColumn 99 = .ok (.iconst 0, 1) := dk_3 (dk_at dksX4_addToColumn_4 6 rfl rfl)
theorem dX4_addToColumn_100 : decode cX4_addToColumn 100 = .ok (.ireturn, 1) := dk_172 (dk_at dksX4_addToColumn_4 7 rfl rfl)
theorem dX4_addToColumn_101 : decode cX4_addToColumn 101 = .ok (.iconst 0, 1) := dk_3 (dk_at dksX4_addToColumn_4 8 rfl rfl)
theorem dX4_addToColumn_102 : decode cX4_addToColumn 102 = .ok (.istore 4, 2) := dk_54 4 (dk_at dksX4_addToColumn_4 9 rfl rfl)
theorem dX4_addToColumn_104 : decode cX4_addToColumn 104 = .ok (.iload 4, 2) := dk_21 4 (dk_at dksX4_addToColumn_4 11 rfl rfl)
theorem dX4_addToColumn_106 : decode cX4_addToColumn 106 = .ok (.aload_n 0, 1) := dk_42 (dk_at dksX4_addToColumn_4 13 rfl rfl)
theorem dX4_addToColumn_107 : decode cX4_addToColumn 107 = .ok (.getfield 7, 3) := dk_180 0 7 (dk_at dksX4_addToColumn_4 14 rfl rfl)
theorem dX4_addToColumn_110 : decode cX4_addToColumn 110 = .ok (.if_icmp .ge 25, 3) := dk_162 0 25 (dk_at dksX4_addToColumn_4 17 rfl rfl)
theorem dX4_addToColumn_113 : decode cX4_addToColumn 113 = .ok (.aload_n 0, 1) := dk_42 (dk_at dksX4_addToColumn_4 20 rfl rfl)
theorem dX4_addToColumn_114 : decode cX4_addToColumn 114 = .ok (.getfield 22, 3) := dk_180 0 22 (dk_at dksX4_addToColumn_4 21 rfl rfl)
theorem dX4_addToColumn_117 : decode cX4_addToColumn 117 = .ok (.bipush 7, 2) := dk_16 7 (dk_at dksX4_addToColumn_5 0 rfl rfl)
theorem dX4_addToColumn_119 : decode cX4_addToColumn 119 = .ok (.iload 4, 2) := dk_21 4 (dk_at dksX4_addToColumn_5 2 rfl rfl)
theorem dX4_addToColumn_121 : decode cX4_addToColumn 121 = .ok (.imul, 1) := dk_104 (dk_at dksX4_addToColumn_5 4 rfl rfl)
theorem dX4_addToColumn_122 : decode cX4_addToColumn 122 = .ok (.iload_n 1, 1) := dk_27 (dk_at dksX4_addToColumn_5 5 rfl rfl)
theorem dX4_addToColumn_123 : decode cX4_addToColumn 123 = .ok (.iadd, 1) := dk_96 (dk_at dksX4_addToColumn_5 6 rfl rfl)
theorem dX4_addToColumn_124 : decode cX4_addToColumn 124 = .ok (.dup2, 1) := dk_92 (dk_at dksX4_addToColumn_5 7 rfl rfl)
theorem dX4_addToColumn_125 : decode cX4_addToColumn 125 = .ok (.iaload, 1) := dk_46 (dk_at dksX4_addToColumn_5 8 rfl rfl)
theorem dX4_addToColumn_126 : decode cX4_addToColumn 126 = .ok (.iload_n 2, 1) := dk_28 (dk_at dksX4_addToColumn_5 9 rfl rfl)
theorem dX4_addToColumn_127 : decode cX4_addToColumn 127 = .ok (.iadd, 1) := dk_96 (dk_at dksX4_addToColumn_5 10 rfl rfl)
theorem dX4_addToColumn_128 : decode cX4_addToColumn 128 = .ok (.iastore, 1) := dk_79 (dk_at dksX4_addToColumn_5 11 rfl rfl)
theorem dX4_addToColumn_129 : decode cX4_addToColumn 129 = .ok (.iinc 4 1, 3) := dk_132 4 1 (dk_at dksX4_addToColumn_5 12 rfl rfl)
theorem dX4_addToColumn_132 : decode cX4_addToColumn 132 = .ok (.goto (-28), 3) := dk_167 255 228 (dk_at dksX4_addToColumn_5 15 rfl rfl)
theorem dX4_addToColumn_135 : decode cX4_addToColumn 135 = .ok (.aload_n 0, 1) := dk_42 (dk_at dksX4_addToColumn_5 18 rfl rfl)
theorem dX4_addToColumn_136 : decode cX4_addToColumn 136 = .ok (.iconst (-1), 1) := dk_2 (dk_at dksX4_addToColumn_5 19 rfl rfl)
theorem dX4_addToColumn_137 : decode cX4_addToColumn 137 = .ok (.putfield 48, 3) := dk_181 0 48 (dk_at dksX4_addToColumn_5 20 rfl rfl)
theorem dX4_addToColumn_140 : decode cX4_addToColumn 140 = .ok (.aload_n 0, 1) := dk_42 (dk_at dksX4_addToColumn_5 23 rfl rfl)
theorem dX4_addToColumn_141 : decode cX4_addToColumn 141 = .ok (.iload_n 1, 1) := dk_27 (dk_at dksX4_addToColumn_6 0 rfl rfl)
theorem dX4_addToColumn_142 : decode cX4_addToColumn 142 = .ok (.invokevirtual 147, 3) := dk_182 0 147 (dk_at dksX4_addToColumn_6 1 rfl rfl)
theorem dX4_addToColumn_145 : decode cX4_addToColumn 145 = .ok (.ireturn, 1) := dk_172 (dk_at dksX4_addToColumn_6 4 rfl rfl)
abbrev cX4_columnSum : ByteArray := prog_7_method_29_code
def yX4_columnSum : MethodName := ⟨RX4, "columnSum", "(I)I"⟩
def dkwX4_columnSum_1 : List UInt8 := [167, 255, 236, 28, 172]
abbrev dktX4_columnSum_1 : List UInt8 := dkwX4_columnSum_1 ++ []
def dkwX4_columnSum_0 : List UInt8 := [3, 61, 3, 62, 29, 42, 180, 0, 7, 162, 0, 18, 28, 42, 29, 27, 182, 0, 75, 96, 61, 132, 3, 1]
abbrev dktX4_columnSum_0 : List UInt8 := dkwX4_columnSum_0 ++ dktX4_columnSum_1
theorem dksX4_columnSum_0 : cX4_columnSum.data.toList.drop 0 = dktX4_columnSum_0 := by decide +kernel
theorem dksX4_columnSum_1 : cX4_columnSum.data.toList.drop 24 = dktX4_columnSum_1 := dk_seg dksX4_columnSum_0 24 rfl rfl
theorem dX4_columnSum_0 : decode cX4_columnSum 0 = .ok (.iconst 0, 1) := dk_3 (dk_at dksX4_columnSum_0 0 rfl rfl)
theorem dX4_columnSum_1 : decode cX4_columnSum 1 = .ok (.istore_n 2, 1) := dk_61 (dk_at dksX4_columnSum_0 1 rfl rfl)
theorem dX4_columnSum_2 : decode cX4_columnSum 2 = .ok (.iconst 0, 1) := dk_3 (dk_at dksX4_columnSum_0 2 rfl rfl)
theorem dX4_columnSum_3 : decode cX4_columnSum 3 = .ok (.istore_n 3, 1) := dk_62 (dk_at dksX4_columnSum_0 3 rfl rfl)
theorem dX4_columnSum_4 : decode cX4_columnSum 4 = .ok (.iload_n 3, 1) := dk_29 (dk_at dksX4_columnSum_0 4 rfl rfl)
theorem dX4_columnSum_5 : decode cX4_columnSum 5 = .ok (.aload_n 0, 1) := dk_42 (dk_at dksX4_columnSum_0 5 rfl rfl)
theorem dX4_columnSum_6 : decode cX4_columnSum 6 = .ok (.getfield 7, 3) := dk_180 0 7 (dk_at dksX4_columnSum_0 6 rfl rfl)
theorem dX4_columnSum_9 : decode cX4_columnSum 9 = .ok (.if_icmp .ge 18, 3) := dk_162 0 18 (dk_at dksX4_columnSum_0 9 rfl rfl)
theorem dX4_columnSum_12 : decode cX4_columnSum 12 = .ok (.iload_n 2, 1) := dk_28 (dk_at dksX4_columnSum_0 12 rfl rfl)
theorem dX4_columnSum_13 : decode cX4_columnSum 13 = .ok (.aload_n 0, 1) := dk_42 (dk_at dksX4_columnSum_0 13 rfl rfl)
theorem dX4_columnSum_14 : decode cX4_columnSum 14 = .ok (.iload_n 3, 1) := dk_29 (dk_at dksX4_columnSum_0 14 rfl rfl)
theorem dX4_columnSum_15 : decode cX4_columnSum 15 = .ok (.iload_n 1, 1) := dk_27 (dk_at dksX4_columnSum_0 15 rfl rfl)
theorem dX4_columnSum_16 : decode cX4_columnSum 16 = .ok (.invokevirtual 75, 3) := dk_182 0 75 (dk_at dksX4_columnSum_0 16 rfl rfl)
theorem dX4_columnSum_19 : decode cX4_columnSum 19 = .ok (.iadd, 1) := dk_96 (dk_at dksX4_columnSum_0 19 rfl rfl)
theorem dX4_columnSum_20 : decode cX4_columnSum 20 = .ok (.istore_n 2, 1) := dk_61 (dk_at dksX4_columnSum_0 20 rfl rfl)
theorem dX4_columnSum_21 : decode cX4_columnSum 21 = .ok (.iinc 3 1, 3) := dk_132 3 1 (dk_at dksX4_columnSum_0 21 rfl rfl)
theorem dX4_columnSum_24 : decode cX4_columnSum 24 = .ok (.goto (-20), 3) := dk_167 255 236 (dk_at dksX4_columnSum_1 0 rfl rfl)
theorem dX4_columnSum_27 : decode cX4_columnSum 27 = .ok (.iload_n 2, 1) := dk_28 (dk_at dksX4_columnSum_1 3 rfl rfl)
theorem dX4_columnSum_28 : decode cX4_columnSum 28 = .ok (.ireturn, 1) := dk_172 (dk_at dksX4_columnSum_1 4 rfl rfl)
abbrev cX4_swapRows : ByteArray := prog_7_method_34_code
def yX4_swapRows : MethodName := ⟨RX4, "swapRows", "(II)I"⟩
def dkwX4_swapRows_3 : List UInt8 := [182, 0, 144, 172]
abbrev dktX4_swapRows_3 : List UInt8 := dkwX4_swapRows_3 ++ []
def dkwX4_swapRows_2 : List UInt8 := [96, 16, 7, 28, 104, 29, 96, 182, 0, 150, 132, 3, 1, 167, 255, 229, 42, 2, 181, 0, 48, 42, 27]
abbrev dktX4_swapRows_2 : List UInt8 := dkwX4_swapRows_2 ++ dktX4_swapRows_3
def dkwX4_swapRows_1 : List UInt8 := [182, 0, 118, 153, 0, 5, 3, 172, 3, 62, 29, 42, 180, 0, 13, 162, 0, 25, 42, 16, 7, 27, 104, 29]
abbrev dktX4_swapRows_1 : List UInt8 := dkwX4_swapRows_1 ++ dktX4_swapRows_2
def dkwX4_swapRows_0 : List UInt8 := [42, 42, 27, 182, 0, 122, 153, 0, 11, 42, 28, 182, 0, 122, 154, 0, 7, 4, 167, 0, 4, 3]
abbrev dktX4_swapRows_0 : List UInt8 := dkwX4_swapRows_0 ++ dktX4_swapRows_1
theorem dksX4_swapRows_0 : cX4_swapRows.data.toList.drop 0 = dktX4_swapRows_0 := by decide +kernel
theorem dksX4_swapRows_1 : cX4_swapRows.data.toList.drop 22 = dktX4_swapRows_1 := dk_seg dksX4_swapRows_0 22 rfl rfl
theorem dksX4_swapRows_2 : cX4_swapRows.data.toList.drop 46 = dktX4_swapRows_2 := dk_seg dksX4_swapRows_1 24 rfl rfl
theorem dksX4_swapRows_3 : cX4_swapRows.data.toList.drop 69 = dktX4_swapRows_3 := dk_seg dksX4_swapRows_2 23 rfl rfl
theorem dX4_swapRows_0 : decode cX4_swapRows 0 = .ok (.aload_n 0, 1) := dk_42 (dk_at dksX4_swapRows_0 0 rfl rfl)
theorem dX4_swapRows_1 : decode cX4_swapRows 1 = .ok (.aload_n 0, 1) := dk_42 (dk_at dksX4_swapRows_0 1 rfl rfl)
theorem dX4_swapRows_2 : decode cX4_swapRows 2 = .ok (.iload_n 1, 1) := dk_27 (dk_at dksX4_swapRows_0 2 rfl rfl)
theorem dX4_swapRows_3 : decode cX4_swapRows 3 = .ok (.invokevirtual 122, 3) := dk_182 0 122 (dk_at dksX4_swapRows_0 3 rfl rfl)
theorem dX4_swapRows_6 : decode cX4_swapRows 6 = .ok (.ifCond .eq 11, 3) := dk_153 0 11 (dk_at dksX4_swapRows_0 6 rfl rfl)
theorem dX4_swapRows_9 : decode cX4_swapRows 9 = .ok (.aload_n 0, 1) := dk_42 (dk_at dksX4_swapRows_0 9 rfl rfl)
theorem dX4_swapRows_10 : decode cX4_swapRows 10 = .ok (.iload_n 2, 1) := dk_28 (dk_at dksX4_swapRows_0 10 rfl rfl)
theorem dX4_swapRows_11 : decode cX4_swapRows 11 = .ok (.invokevirtual 122, 3) := dk_182 0 122 (dk_at dksX4_swapRows_0 11 rfl rfl)
theorem dX4_swapRows_14 : decode cX4_swapRows 14 = .ok (.ifCond .ne 7, 3) := dk_154 0 7 (dk_at dksX4_swapRows_0 14 rfl rfl)
theorem dX4_swapRows_17 : decode cX4_swapRows 17 = .ok (.iconst 1, 1) := dk_4 (dk_at dksX4_swapRows_0 17 rfl rfl)
theorem dX4_swapRows_18 : decode cX4_swapRows 18 = .ok (.goto 4, 3) := dk_167 0 4 (dk_at dksX4_swapRows_0 18 rfl rfl)
theorem dX4_swapRows_21 : decode cX4_swapRows 21 = .ok (.iconst 0, 1) := dk_3 (dk_at dksX4_swapRows_0 21 rfl rfl)
theorem dX4_swapRows_22 : decode cX4_swapRows 22 = .ok (.invokevirtual 118, 3) := dk_182 0 118 (dk_at dksX4_swapRows_1 0 rfl rfl)
theorem dX4_swapRows_25 : decode cX4_swapRows 25 = .ok (.ifCond .eq 5, 3) := dk_153 0 5 (dk_at dksX4_swapRows_1 3 rfl rfl)
theorem dX4_swapRows_28 : decode cX4_swapRows 28 = .ok (.iconst 0, 1) := dk_3 (dk_at dksX4_swapRows_1 6 rfl rfl)
theorem dX4_swapRows_29 : decode cX4_swapRows 29 = .ok (.ireturn, 1) := dk_172 (dk_at dksX4_swapRows_1 7 rfl rfl)
theorem dX4_swapRows_30 : decode cX4_swapRows 30 = .ok (.iconst 0, 1) := dk_3 (dk_at dksX4_swapRows_1 8 rfl rfl)
theorem dX4_swapRows_31 : decode cX4_swapRows 31 = .ok (.istore_n 3, 1) := dk_62 (dk_at dksX4_swapRows_1 9 rfl rfl)
theorem dX4_swapRows_32 : decode cX4_swapRows 32 = .ok (.iload_n 3, 1) := dk_29 (dk_at dksX4_swapRows_1 10 rfl rfl)
theorem dX4_swapRows_33 : decode cX4_swapRows 33 = .ok (.aload_n 0, 1) := dk_42 (dk_at dksX4_swapRows_1 11 rfl rfl)
theorem dX4_swapRows_34 : decode cX4_swapRows 34 = .ok (.getfield 13, 3) := dk_180 0 13 (dk_at dksX4_swapRows_1 12 rfl rfl)
theorem dX4_swapRows_37 : decode cX4_swapRows 37 = .ok (.if_icmp .ge 25, 3) := dk_162 0 25 (dk_at dksX4_swapRows_1 15 rfl rfl)
theorem dX4_swapRows_40 : decode cX4_swapRows 40 = .ok (.aload_n 0, 1) := dk_42 (dk_at dksX4_swapRows_1 18 rfl rfl)
theorem dX4_swapRows_41 : decode cX4_swapRows 41 = .ok (.bipush 7, 2) := dk_16 7 (dk_at dksX4_swapRows_1 19 rfl rfl)
theorem dX4_swapRows_43 : decode cX4_swapRows 43 = .ok (.iload_n 1, 1) := dk_27 (dk_at dksX4_swapRows_1 21 rfl rfl)
theorem dX4_swapRows_44 : decode cX4_swapRows 44 = .ok (.imul, 1) := dk_104 (dk_at dksX4_swapRows_1 22 rfl rfl)
theorem dX4_swapRows_45 : decode cX4_swapRows 45 = .ok (.iload_n 3, 1) := dk_29 (dk_at dksX4_swapRows_1 23 rfl rfl)
theorem dX4_swapRows_46 : decode cX4_swapRows 46 = .ok (.iadd, 1) := dk_96 (dk_at dksX4_swapRows_2 0 rfl rfl)
theorem dX4_swapRows_47 : decode cX4_swapRows 47 = .ok (.bipush 7, 2) := dk_16 7 (dk_at dksX4_swapRows_2 1 rfl rfl)
theorem dX4_swapRows_49 : decode cX4_swapRows 49 = .ok (.iload_n 2, 1) := dk_28 (dk_at dksX4_swapRows_2 3 rfl rfl)
theorem dX4_swapRows_50 : decode cX4_swapRows 50 = .ok (.imul, 1) := dk_104 (dk_at dksX4_swapRows_2 4 rfl rfl)
theorem dX4_swapRows_51 : decode cX4_swapRows 51 = .ok (.iload_n 3, 1) := dk_29 (dk_at dksX4_swapRows_2 5 rfl rfl)
theorem dX4_swapRows_52 : decode cX4_swapRows 52 = .ok (.iadd, 1) := dk_96 (dk_at dksX4_swapRows_2 6 rfl rfl)
theorem dX4_swapRows_53 : decode cX4_swapRows 53 = .ok (.invokevirtual 150, 3) := dk_182 0 150 (dk_at dksX4_swapRows_2 7 rfl rfl)
theorem dX4_swapRows_56 : decode cX4_swapRows 56 = .ok (.iinc 3 1, 3) := dk_132 3 1 (dk_at dksX4_swapRows_2 10 rfl rfl)
theorem dX4_swapRows_59 : decode cX4_swapRows 59 = .ok (.goto (-27), 3) := dk_167 255 229 (dk_at dksX4_swapRows_2 13 rfl rfl)
theorem dX4_swapRows_62 : decode cX4_swapRows 62 = .ok (.aload_n 0, 1) := dk_42 (dk_at dksX4_swapRows_2 16 rfl rfl)
theorem dX4_swapRows_63 : decode cX4_swapRows 63 = .ok (.iconst (-1), 1) := dk_2 (dk_at dksX4_swapRows_2 17 rfl rfl)
theorem dX4_swapRows_64 : decode cX4_swapRows 64 = .ok (.putfield 48, 3) := dk_181 0 48 (dk_at dksX4_swapRows_2 18 rfl rfl)
theorem dX4_swapRows_67 : decode cX4_swapRows 67 = .ok (.aload_n 0, 1) := dk_42 (dk_at dksX4_swapRows_2 21 rfl rfl)
theorem dX4_swapRows_68 : decode cX4_swapRows 68 = .ok (.iload_n 1, 1) := dk_27 (dk_at dksX4_swapRows_2 22 rfl rfl)
theorem dX4_swapRows_69 : decode cX4_swapRows 69 = .ok (.invokevirtual 144, 3) := dk_182 0 144 (dk_at dksX4_swapRows_3 0 rfl rfl)
theorem dX4_swapRows_72 : decode cX4_swapRows 72 = .ok (.ireturn, 1) := dk_172 (dk_at dksX4_swapRows_3 3 rfl rfl)
abbrev cX4_exchangeCells : ByteArray := prog_7_method_33_code
def yX4_exchangeCells : MethodName := ⟨RX4, "exchangeCells", "(II)V"⟩
def dkwX4_exchangeCells_2 : List UInt8 := [180, 0, 29, 28, 21, 4, 84, 177]
abbrev dktX4_exchangeCells_2 : List UInt8 := dkwX4_exchangeCells_2 ++ []
def dkwX4_exchangeCells_1 : List UInt8 := [28, 46, 79, 42, 180, 0, 29, 27, 42, 180, 0, 29, 28, 51, 84, 42, 180, 0, 22, 28, 29, 79, 42]
abbrev dktX4_exchangeCells_1 : List UInt8 := dkwX4_exchangeCells_1 ++ dktX4_exchangeCells_2
def dkwX4_exchangeCells_0 : List UInt8 := [42, 180, 0, 22, 27, 46, 62, 42, 180, 0, 29, 27, 51, 54, 4, 42, 180, 0, 22, 27, 42, 180, 0, 22]
abbrev dktX4_exchangeCells_0 : List UInt8 := dkwX4_exchangeCells_0 ++ dktX4_exchangeCells_1
theorem dksX4_exchangeCells_0 : cX4_exchangeCells.data.toList.drop 0 = dktX4_exchangeCells_0 := by decide +kernel
theorem dksX4_exchangeCells_1 : cX4_exchangeCells.data.toList.drop 24 = dktX4_exchangeCells_1 := dk_seg dksX4_exchangeCells_0 24 rfl rfl
theorem dksX4_exchangeCells_2 : cX4_exchangeCells.data.toList.drop 47 = dktX4_exchangeCells_2 := dk_seg dksX4_exchangeCells_1 23 rfl rfl
theorem dX4_exchangeCells_0 : decode cX4_exchangeCells 0 = .ok (.aload_n 0, 1) := dk_42 (dk_at dksX4_exchangeCells_0 0 rfl rfl)
theorem dX4_exchangeCells_1 : decode cX4_exchangeCells 1 = .ok (.getfield 22, 3) := dk_180 0 22 (dk_at dksX4_exchangeCells_0 1 rfl rfl)
theorem dX4_exchangeCells_4 : decode cX4_exchangeCells 4 = .ok (.iload_n 1, 1) := dk_27 (dk_at dksX4_exchangeCells_0 4 rfl rfl)
theorem dX4_exchangeCells_5 : decode cX4_exchangeCells 5 = .ok (.iaload, 1) := dk_46 (dk_at dksX4_exchangeCells_0 5 rfl rfl)
theorem dX4_exchangeCells_6 : decode cX4_exchangeCells 6 = .ok (.istore_n 3, 1) := dk_62 (dk_at dksX4_exchangeCells_0 6 rfl rfl)
theorem dX4_exchangeCells_7 : decode cX4_exchangeCells 7 = .ok (.aload_n 0, 1) := dk_42 (dk_at dksX4_exchangeCells_0 7 rfl rfl)
theorem dX4_exchangeCells_8 : decode cX4_exchangeCells 8 = .ok (.getfield 29, 3) := dk_180 0 29 (dk_at dksX4_exchangeCells_0 8 rfl rfl)
theorem dX4_exchangeCells_11 : decode cX4_exchangeCells 11 = .ok (.iload_n 1, 1) := dk_27 (dk_at dksX4_exchangeCells_0 11 rfl rfl)
theorem dX4_exchangeCells_12 : decode cX4_exchangeCells 12 = .ok (.baload, 1) := dk_51 (dk_at dksX4_exchangeCells_0 12 rfl rfl)
theorem dX4_exchangeCells_13 : decode cX4_exchangeCells 13 = .ok (.istore 4, 2) := dk_54 4 (dk_at dksX4_exchangeCells_0 13 rfl rfl)
theorem dX4_exchangeCells_15 : decode cX4_exchangeCells 15 = .ok (.aload_n 0, 1) := dk_42 (dk_at dksX4_exchangeCells_0 15 rfl rfl)
theorem dX4_exchangeCells_16 : decode cX4_exchangeCells 16 = .ok (.getfield 22, 3) := dk_180 0 22 (dk_at dksX4_exchangeCells_0 16 rfl rfl)
theorem dX4_exchangeCells_19 : decode cX4_exchangeCells 19 = .ok (.iload_n 1, 1) := dk_27 (dk_at dksX4_exchangeCells_0 19 rfl rfl)
theorem dX4_exchangeCells_20 : decode cX4_exchangeCells 20 = .ok (.aload_n 0, 1) := dk_42 (dk_at dksX4_exchangeCells_0 20 rfl rfl)
theorem dX4_exchangeCells_21 : decode cX4_exchangeCells 21 = .ok (.getfield 22, 3) := dk_180 0 22 (dk_at dksX4_exchangeCells_0 21 rfl rfl)
theorem dX4_exchangeCells_24 : decode cX4_exchangeCells 24 = .ok (.iload_n 2, 1) := dk_28 (dk_at dksX4_exchangeCells_1 0 rfl rfl)
theorem dX4_exchangeCells_25 : decode cX4_exchangeCells 25 = .ok (.iaload, 1) := dk_46 (dk_at dksX4_exchangeCells_1 1 rfl rfl)
theorem dX4_exchangeCells_26 : decode cX4_exchangeCells 26 = .ok (.iastore, 1) := dk_79 (dk_at dksX4_exchangeCells_1 2 rfl rfl)
theorem dX4_exchangeCells_27 : decode cX4_exchangeCells 27 = .ok (.aload_n 0, 1) := dk_42 (dk_at dksX4_exchangeCells_1 3 rfl rfl)
theorem dX4_exchangeCells_28 : decode cX4_exchangeCells 28 = .ok (.getfield 29, 3) := dk_180 0 29 (dk_at dksX4_exchangeCells_1 4 rfl rfl)
theorem dX4_exchangeCells_31 : decode cX4_exchangeCells 31 = .ok (.iload_n 1, 1) := dk_27 (dk_at dksX4_exchangeCells_1 7 rfl rfl)
theorem dX4_exchangeCells_32 : decode cX4_exchangeCells 32 = .ok (.aload_n 0, 1) := dk_42 (dk_at dksX4_exchangeCells_1 8 rfl rfl)
theorem dX4_exchangeCells_33 : decode cX4_exchangeCells 33 = .ok (.getfield 29, 3) := dk_180 0 29 (dk_at dksX4_exchangeCells_1 9 rfl rfl)
theorem dX4_exchangeCells_36 : decode cX4_exchangeCells 36 = .ok (.iload_n 2, 1) := dk_28 (dk_at dksX4_exchangeCells_1 12 rfl rfl)
theorem dX4_exchangeCells_37 : decode cX4_exchangeCells 37 = .ok (.baload, 1) := dk_51 (dk_at dksX4_exchangeCells_1 13 rfl rfl)
theorem dX4_exchangeCells_38 : decode cX4_exchangeCells 38 = .ok (.bastore, 1) := dk_84 (dk_at dksX4_exchangeCells_1 14 rfl rfl)
theorem dX4_exchangeCells_39 : decode cX4_exchangeCells 39 = .ok (.aload_n 0, 1) := dk_42 (dk_at dksX4_exchangeCells_1 15 rfl rfl)
theorem dX4_exchangeCells_40 : decode cX4_exchangeCells 40 = .ok (.getfield 22, 3) := dk_180 0 22 (dk_at dksX4_exchangeCells_1 16 rfl rfl)
theorem dX4_exchangeCells_43 : decode cX4_exchangeCells 43 = .ok (.iload_n 2, 1) := dk_28 (dk_at dksX4_exchangeCells_1 19 rfl rfl)
theorem dX4_exchangeCells_44 : decode cX4_exchangeCells 44 = .ok (.iload_n 3, 1) := dk_29 (dk_at dksX4_exchangeCells_1 20 rfl rfl)
theorem dX4_exchangeCells_45 : decode cX4_exchangeCells 45 = .ok (.iastore, 1) := dk_79 (dk_at dksX4_exchangeCells_1 21 rfl rfl)
theorem dX4_exchangeCells_46 : decode cX4_exchangeCells 46 = .ok (.aload_n 0, 1) := dk_42 (dk_at dksX4_exchangeCells_1 22 rfl rfl)
theorem dX4_exchangeCells_47 : decode cX4_exchangeCells 47 = .ok (.getfield 29, 3) := dk_180 0 29 (dk_at dksX4_exchangeCells_2 0 rfl rfl)
theorem dX4_exchangeCells_50 : decode cX4_exchangeCells 50 = .ok (.iload_n 2, 1) := dk_28 (dk_at dksX4_exchangeCells_2 3 rfl rfl)
theorem dX4_exchangeCells_51 : decode cX4_exchangeCells 51 = .ok (.iload 4, 2) := dk_21 4 (dk_at dksX4_exchangeCells_2 4 rfl rfl)
theorem dX4_exchangeCells_53 : decode cX4_exchangeCells 53 = .ok (.bastore, 1) := dk_84 (dk_at dksX4_exchangeCells_2 6 rfl rfl)
theorem dX4_exchangeCells_54 : decode cX4_exchangeCells 54 = .ok (.return_, 1) := dk_177 (dk_at dksX4_exchangeCells_2 7 rfl rfl)
abbrev cX4_swapColumns : ByteArray := prog_7_method_35_code
def yX4_swapColumns : MethodName := ⟨RX4, "swapColumns", "(II)I"⟩
def dkwX4_swapColumns_3 : List UInt8 := [182, 0, 147, 172]
abbrev dktX4_swapColumns_3 : List UInt8 := dkwX4_swapColumns_3 ++ []
def dkwX4_swapColumns_2 : List UInt8 := [96, 16, 7, 29, 104, 28, 96, 182, 0, 150, 132, 3, 1, 167, 255, 229, 42, 2, 181, 0, 48, 42, 27]
abbrev dktX4_swapColumns_2 : List UInt8 := dkwX4_swapColumns_2 ++ dktX4_swapColumns_3
def dkwX4_swapColumns_1 : List UInt8 := [182, 0, 118, 153, 0, 5, 3, 172, 3, 62, 29, 42, 180, 0, 7, 162, 0, 25, 42, 16, 7, 29, 104, 27]
abbrev dktX4_swapColumns_1 : List UInt8 := dkwX4_swapColumns_1 ++ dktX4_swapColumns_2
def dkwX4_swapColumns_0 : List UInt8 := [42, 42, 27, 182, 0, 125, 153, 0, 11, 42, 28, 182, 0, 125, 154, 0, 7, 4, 167, 0, 4, 3]
abbrev dktX4_swapColumns_0 : List UInt8 := dkwX4_swapColumns_0 ++ dktX4_swapColumns_1
theorem dksX4_swapColumns_0 : cX4_swapColumns.data.toList.drop 0 = dktX4_swapColumns_0 := by decide +kernel
theorem dksX4_swapColumns_1 : cX4_swapColumns.data.toList.drop 22 = dktX4_swapColumns_1 := dk_seg dksX4_swapColumns_0 22 rfl rfl
theorem dksX4_swapColumns_2 : cX4_swapColumns.data.toList.drop 46 = dktX4_swapColumns_2 := dk_seg dksX4_swapColumns_1 24 rfl rfl
theorem dksX4_swapColumns_3 : cX4_swapColumns.data.toList.drop 69 = dktX4_swapColumns_3 := dk_seg dksX4_swapColumns_2 23 rfl rfl
theorem dX4_swapColumns_0 : decode cX4_swapColumns 0 = .ok (.aload_n 0, 1) := dk_42 (dk_at dksX4_swapColumns_0 0 rfl rfl)
theorem dX4_swapColumns_1 : decode cX4_swapColumns 1 = .ok (.aload_n 0, 1) := dk_42 (dk_at dksX4_swapColumns_0 1 rfl rfl)
theorem dX4_swapColumns_2 : decode cX4_swapColumns 2 = .ok (.iload_n 1, 1) := dk_27 (dk_at dksX4_swapColumns_0 2 rfl rfl)
theorem dX4_swapColumns_3 : decode cX4_swapColumns 3 = .ok (.invokevirtual 125, 3) := dk_182 0 125 (dk_at dksX4_swapColumns_0 3 rfl rfl)
theorem dX4_swapColumns_6 : decode cX4_swapColumns 6 = .ok (.ifCond .eq 11, 3) := dk_153 0 11 (dk_at dksX4_swapColumns_0 6 rfl rfl)
theorem dX4_swapColumns_9 : decode cX4_swapColumns 9 = .ok (.aload_n 0, 1) := dk_42 (dk_at dksX4_swapColumns_0 9 rfl rfl)
theorem dX4_swapColumns_10 : decode cX4_swapColumns 10 = .ok (.iload_n 2, 1) := dk_28 (dk_at dksX4_swapColumns_0 10 rfl rfl)
theorem dX4_swapColumns_11 : decode cX4_swapColumns 11 = .ok (.invokevirtual 125, 3) := dk_182 0 125 (dk_at dksX4_swapColumns_0 11 rfl rfl)
theorem dX4_swapColumns_14 : decode cX4_swapColumns 14 = .ok (.ifCond .ne 7, 3) := dk_154 0 7 (dk_at dksX4_swapColumns_0 14 rfl rfl)
theorem dX4_swapColumns_17 : decode cX4_swapColumns 17 = .ok (.iconst 1, 1) := dk_4 (dk_at dksX4_swapColumns_0 17 rfl rfl)
theorem dX4_swapColumns_18 : decode cX4_swapColumns 18 = .ok (.goto 4, 3) := dk_167 0 4 (dk_at dksX4_swapColumns_0 18 rfl rfl)
theorem dX4_swapColumns_21 : decode cX4_swapColumns 21 = .ok (.iconst 0, 1) := dk_3 (dk_at dksX4_swapColumns_0 21 rfl rfl)
theorem dX4_swapColumns_22 : decode cX4_swapColumns 22 = .ok (.invokevirtual 118, 3) := dk_182 0 118 (dk_at dksX4_swapColumns_1 0 rfl rfl)
theorem dX4_swapColumns_25 : decode cX4_swapColumns 25 = .ok (.ifCond .eq 5, 3) := dk_153 0 5 (dk_at dksX4_swapColumns_1 3 rfl rfl)
theorem dX4_swapColumns_28 : decode cX4_swapColumns 28 = .ok (.iconst 0, 1) := dk_3 (dk_at dksX4_swapColumns_1 6 rfl rfl)
theorem dX4_swapColumns_29 : decode cX4_swapColumns 29 = .ok (.ireturn, 1) := dk_172 (dk_at dksX4_swapColumns_1 7 rfl rfl)
theorem dX4_swapColumns_30 : decode cX4_swapColumns 30 = .ok (.iconst 0, 1) := dk_3 (dk_at dksX4_swapColumns_1 8 rfl rfl)
theorem dX4_swapColumns_31 : decode cX4_swapColumns 31 = .ok (.istore_n 3, 1) := dk_62 (dk_at dksX4_swapColumns_1 9 rfl rfl)
theorem dX4_swapColumns_32 : decode cX4_swapColumns 32 = .ok (.iload_n 3, 1) := dk_29 (dk_at dksX4_swapColumns_1 10 rfl rfl)
theorem dX4_swapColumns_33 : decode cX4_swapColumns 33 = .ok (.aload_n 0, 1) := dk_42 (dk_at dksX4_swapColumns_1 11 rfl rfl)
theorem dX4_swapColumns_34 : decode cX4_swapColumns 34 = .ok (.getfield 7, 3) := dk_180 0 7 (dk_at dksX4_swapColumns_1 12 rfl rfl)
theorem dX4_swapColumns_37 : decode cX4_swapColumns 37 = .ok (.if_icmp .ge 25, 3) := dk_162 0 25 (dk_at dksX4_swapColumns_1 15 rfl rfl)
theorem dX4_swapColumns_40 : decode cX4_swapColumns 40 = .ok (.aload_n 0, 1) := dk_42 (dk_at dksX4_swapColumns_1 18 rfl rfl)
theorem dX4_swapColumns_41 : decode cX4_swapColumns 41 = .ok (.bipush 7, 2) := dk_16 7 (dk_at dksX4_swapColumns_1 19 rfl rfl)
theorem dX4_swapColumns_43 : decode cX4_swapColumns 43 = .ok (.iload_n 3, 1) := dk_29 (dk_at dksX4_swapColumns_1 21 rfl rfl)
theorem dX4_swapColumns_44 : decode cX4_swapColumns 44 = .ok (.imul, 1) := dk_104 (dk_at dksX4_swapColumns_1 22 rfl rfl)
theorem dX4_swapColumns_45 : decode cX4_swapColumns 45 = .ok (.iload_n 1, 1) := dk_27 (dk_at dksX4_swapColumns_1 23 rfl rfl)
theorem dX4_swapColumns_46 : decode cX4_swapColumns 46 = .ok (.iadd, 1) := dk_96 (dk_at dksX4_swapColumns_2 0 rfl rfl)
theorem dX4_swapColumns_47 : decode cX4_swapColumns 47 = .ok (.bipush 7, 2) := dk_16 7 (dk_at dksX4_swapColumns_2 1 rfl rfl)
theorem dX4_swapColumns_49 : decode cX4_swapColumns 49 = .ok (.iload_n 3, 1) := dk_29 (dk_at dksX4_swapColumns_2 3 rfl rfl)
theorem dX4_swapColumns_50 : decode cX4_swapColumns 50 = .ok (.imul, 1) := dk_104 (dk_at dksX4_swapColumns_2 4 rfl rfl)
theorem dX4_swapColumns_51 : decode cX4_swapColumns 51 = .ok (.iload_n 2, 1) := dk_28 (dk_at dksX4_swapColumns_2 5 rfl rfl)
theorem dX4_swapColumns_52 : decode cX4_swapColumns 52 = .ok (.iadd, 1) := dk_96 (dk_at dksX4_swapColumns_2 6 rfl rfl)
theorem dX4_swapColumns_53 : decode cX4_swapColumns 53 = .ok (.invokevirtual 150, 3) := dk_182 0 150 (dk_at dksX4_swapColumns_2 7 rfl rfl)
theorem dX4_swapColumns_56 : decode cX4_swapColumns 56 = .ok (.iinc 3 1, 3) := dk_132 3 1 (dk_at dksX4_swapColumns_2 10 rfl rfl)
theorem dX4_swapColumns_59 : decode cX4_swapColumns 59 = .ok (.goto (-27), 3) := dk_167 255 229 (dk_at dksX4_swapColumns_2 13 rfl rfl)
theorem dX4_swapColumns_62 : decode cX4_swapColumns 62 = .ok (.aload_n 0, 1) := dk_42 (dk_at dksX4_swapColumns_2 16 rfl rfl)
theorem dX4_swapColumns_63 : decode cX4_swapColumns 63 = .ok (.iconst (-1), 1) := dk_2 (dk_at dksX4_swapColumns_2 17 rfl rfl)
theorem dX4_swapColumns_64 : decode cX4_swapColumns 64 = .ok (.putfield 48, 3) := dk_181 0 48 (dk_at dksX4_swapColumns_2 18 rfl rfl)
theorem dX4_swapColumns_67 : decode cX4_swapColumns 67 = .ok (.aload_n 0, 1) := dk_42 (dk_at dksX4_swapColumns_2 21 rfl rfl)
theorem dX4_swapColumns_68 : decode cX4_swapColumns 68 = .ok (.iload_n 1, 1) := dk_27 (dk_at dksX4_swapColumns_2 22 rfl rfl)
theorem dX4_swapColumns_69 : decode cX4_swapColumns 69 = .ok (.invokevirtual 147, 3) := dk_182 0 147 (dk_at dksX4_swapColumns_3 0 rfl rfl)
theorem dX4_swapColumns_72 : decode cX4_swapColumns 72 = .ok (.ireturn, 1) := dk_172 (dk_at dksX4_swapColumns_3 3 rfl rfl)
abbrev cX4_transpose : ByteArray := prog_7_method_36_code
def yX4_transpose : MethodName := ⟨RX4, "transpose", "()I"⟩
def dkwX4_transpose_3 : List UInt8 := [181, 0, 48, 42, 180, 0, 7, 172]
abbrev dktX4_transpose_3 : List UInt8 := dkwX4_transpose_3 ++ []
def dkwX4_transpose_2 : List UInt8 := [96, 16, 7, 28, 104, 27, 96, 182, 0, 150, 132, 2, 1, 167, 255, 232, 132, 1, 1, 167, 255, 216, 42, 2]
abbrev dktX4_transpose_2 : List UInt8 := dkwX4_transpose_2 ++ dktX4_transpose_3
def dkwX4_transpose_1 : List UInt8 := [172, 3, 60, 27, 42, 180, 0, 7, 162, 0, 38, 3, 61, 28, 27, 162, 0, 25, 42, 16, 7, 27, 104, 28]
abbrev dktX4_transpose_1 : List UInt8 := dkwX4_transpose_1 ++ dktX4_transpose_2
def dkwX4_transpose_0 : List UInt8 := [42, 42, 180, 0, 13, 42, 180, 0, 7, 162, 0, 7, 4, 167, 0, 4, 3, 182, 0, 118, 153, 0, 5, 3]
abbrev dktX4_transpose_0 : List UInt8 := dkwX4_transpose_0 ++ dktX4_transpose_1
theorem dksX4_transpose_0 : cX4_transpose.data.toList.drop 0 = dktX4_transpose_0 := by decide +kernel
theorem dksX4_transpose_1 : cX4_transpose.data.toList.drop 24 = dktX4_transpose_1 := dk_seg dksX4_transpose_0 24 rfl rfl
theorem dksX4_transpose_2 : cX4_transpose.data.toList.drop 48 = dktX4_transpose_2 := dk_seg dksX4_transpose_1 24 rfl rfl
theorem dksX4_transpose_3 : cX4_transpose.data.toList.drop 72 = dktX4_transpose_3 := dk_seg dksX4_transpose_2 24 rfl rfl
theorem dX4_transpose_0 : decode cX4_transpose 0 = .ok (.aload_n 0, 1) := dk_42 (dk_at dksX4_transpose_0 0 rfl rfl)
theorem dX4_transpose_1 : decode cX4_transpose 1 = .ok (.aload_n 0, 1) := dk_42 (dk_at dksX4_transpose_0 1 rfl rfl)
theorem dX4_transpose_2 : decode cX4_transpose 2 = .ok (.getfield 13, 3) := dk_180 0 13 (dk_at dksX4_transpose_0 2 rfl rfl)
theorem dX4_transpose_5 : decode cX4_transpose 5 = .ok (.aload_n 0, 1) := dk_42 (dk_at dksX4_transpose_0 5 rfl rfl)
theorem dX4_transpose_6 : decode cX4_transpose 6 = .ok (.getfield 7, 3) := dk_180 0 7 (dk_at dksX4_transpose_0 6 rfl rfl)
theorem dX4_transpose_9 : decode cX4_transpose 9 = .ok (.if_icmp .ge 7, 3) := dk_162 0 7 (dk_at dksX4_transpose_0 9 rfl rfl)
theorem dX4_transpose_12 : decode cX4_transpose 12 = .ok (.iconst 1, 1) := dk_4 (dk_at dksX4_transpose_0 12 rfl rfl)
theorem dX4_transpose_13 : decode cX4_transpose 13 = .ok (.goto 4, 3) := dk_167 0 4 (dk_at dksX4_transpose_0 13 rfl rfl)
theorem dX4_transpose_16 : decode cX4_transpose 16 = .ok (.iconst 0, 1) := dk_3 (dk_at dksX4_transpose_0 16 rfl rfl)
theorem dX4_transpose_17 : decode cX4_transpose 17 = .ok (.invokevirtual 118, 3) := dk_182 0 118 (dk_at dksX4_transpose_0 17 rfl rfl)
theorem dX4_transpose_20 : decode cX4_transpose 20 = .ok (.ifCond .eq 5, 3) := dk_153 0 5 (dk_at dksX4_transpose_0 20 rfl rfl)
theorem dX4_transpose_23 : decode cX4_transpose 23 = .ok (.iconst 0, 1) := dk_3 (dk_at dksX4_transpose_0 23 rfl rfl)
theorem dX4_transpose_24 : decode cX4_transpose 24 = .ok (.ireturn, 1) := dk_172 (dk_at dksX4_transpose_1 0 rfl rfl)
theorem dX4_transpose_25 : decode cX4_transpose 25 = .ok (.iconst 0, 1) := dk_3 (dk_at dksX4_transpose_1 1 rfl rfl)
theorem dX4_transpose_26 : decode cX4_transpose 26 = .ok (.istore_n 1, 1) := dk_60 (dk_at dksX4_transpose_1 2 rfl rfl)
theorem dX4_transpose_27 : decode cX4_transpose 27 = .ok (.iload_n 1, 1) := dk_27 (dk_at dksX4_transpose_1 3 rfl rfl)
theorem dX4_transpose_28 : decode cX4_transpose 28 = .ok (.aload_n 0, 1) := dk_42 (dk_at dksX4_transpose_1 4 rfl rfl)
theorem dX4_transpose_29 : decode cX4_transpose 29 = .ok (.getfield 7, 3) := dk_180 0 7 (dk_at dksX4_transpose_1 5 rfl rfl)
theorem dX4_transpose_32 : decode cX4_transpose 32 = .ok (.if_icmp .ge 38, 3) := dk_162 0 38 (dk_at dksX4_transpose_1 8 rfl rfl)
theorem dX4_transpose_35 : decode cX4_transpose 35 = .ok (.iconst 0, 1) := dk_3 (dk_at dksX4_transpose_1 11 rfl rfl)
theorem dX4_transpose_36 : decode cX4_transpose 36 = .ok (.istore_n 2, 1) := dk_61 (dk_at dksX4_transpose_1 12 rfl rfl)
theorem dX4_transpose_37 : decode cX4_transpose 37 = .ok (.iload_n 2, 1) := dk_28 (dk_at dksX4_transpose_1 13 rfl rfl)
theorem dX4_transpose_38 : decode cX4_transpose 38 = .ok (.iload_n 1, 1) := dk_27 (dk_at dksX4_transpose_1 14 rfl rfl)
theorem dX4_transpose_39 : decode cX4_transpose 39 = .ok (.if_icmp .ge 25, 3) := dk_162 0 25 (dk_at dksX4_transpose_1 15 rfl rfl)
theorem dX4_transpose_42 : decode cX4_transpose 42 = .ok (.aload_n 0, 1) := dk_42 (dk_at dksX4_transpose_1 18 rfl rfl)
theorem dX4_transpose_43 : decode cX4_transpose 43 = .ok (.bipush 7, 2) := dk_16 7 (dk_at dksX4_transpose_1 19 rfl rfl)
theorem dX4_transpose_45 : decode cX4_transpose 45 = .ok (.iload_n 1, 1) := dk_27 (dk_at dksX4_transpose_1 21 rfl rfl)
theorem dX4_transpose_46 : decode cX4_transpose 46 = .ok (.imul, 1) := dk_104 (dk_at dksX4_transpose_1 22 rfl rfl)
theorem dX4_transpose_47 : decode cX4_transpose 47 = .ok (.iload_n 2, 1) := dk_28 (dk_at dksX4_transpose_1 23 rfl rfl)
theorem dX4_transpose_48 : decode cX4_transpose 48 = .ok (.iadd, 1) := dk_96 (dk_at dksX4_transpose_2 0 rfl rfl)
theorem dX4_transpose_49 : decode cX4_transpose 49 = .ok (.bipush 7, 2) := dk_16 7 (dk_at dksX4_transpose_2 1 rfl rfl)
theorem dX4_transpose_51 : decode cX4_transpose 51 = .ok (.iload_n 2, 1) := dk_28 (dk_at dksX4_transpose_2 3 rfl rfl)
theorem dX4_transpose_52 : decode cX4_transpose 52 = .ok (.imul, 1) := dk_104 (dk_at dksX4_transpose_2 4 rfl rfl)
theorem dX4_transpose_53 : decode cX4_transpose 53 = .ok (.iload_n 1, 1) := dk_27 (dk_at dksX4_transpose_2 5 rfl rfl)
theorem dX4_transpose_54 : decode cX4_transpose 54 = .ok (.iadd, 1) := dk_96 (dk_at dksX4_transpose_2 6 rfl rfl)
theorem dX4_transpose_55 : decode cX4_transpose 55 = .ok (.invokevirtual 150, 3) := dk_182 0 150 (dk_at dksX4_transpose_2 7 rfl rfl)
theorem dX4_transpose_58 : decode cX4_transpose 58 = .ok (.iinc 2 1, 3) := dk_132 2 1 (dk_at dksX4_transpose_2 10 rfl rfl)
theorem dX4_transpose_61 : decode cX4_transpose 61 = .ok (.goto (-24), 3) := dk_167 255 232 (dk_at dksX4_transpose_2 13 rfl rfl)
theorem dX4_transpose_64 : decode cX4_transpose 64 = .ok (.iinc 1 1, 3) := dk_132 1 1 (dk_at dksX4_transpose_2 16 rfl rfl)
theorem dX4_transpose_67 : decode cX4_transpose 67 = .ok (.goto (-40), 3) := dk_167 255 216 (dk_at dksX4_transpose_2 19 rfl rfl)
theorem dX4_transpose_70 : decode cX4_transpose 70 = .ok (.aload_n 0, 1) := dk_42 (dk_at dksX4_transpose_2 22 rfl rfl)
theorem dX4_transpose_71 : decode cX4_transpose 71 = .ok (.iconst (-1), 1) := dk_2 (dk_at dksX4_transpose_2 23 rfl rfl)
theorem dX4_transpose_72 : decode cX4_transpose 72 = .ok (.putfield 48, 3) := dk_181 0 48 (dk_at dksX4_transpose_3 0 rfl rfl)
theorem dX4_transpose_75 : decode cX4_transpose 75 = .ok (.aload_n 0, 1) := dk_42 (dk_at dksX4_transpose_3 3 rfl rfl)
theorem dX4_transpose_76 : decode cX4_transpose 76 = .ok (.getfield 7, 3) := dk_180 0 7 (dk_at dksX4_transpose_3 4 rfl rfl)
theorem dX4_transpose_79 : decode cX4_transpose 79 = .ok (.ireturn, 1) := dk_172 (dk_at dksX4_transpose_3 7 rfl rfl)
abbrev cX4_save : ByteArray := prog_7_method_38_code
def yX4_save : MethodName := ⟨RX4, "save", "()I"⟩
def dkwX4_save_2 : List UInt8 := [132, 1, 1, 167, 255, 223, 42, 182, 0, 153, 172]
abbrev dktX4_save_2 : List UInt8 := dkwX4_save_2 ++ []
def dkwX4_save_1 : List UInt8 := [42, 180, 0, 26, 27, 42, 180, 0, 22, 27, 46, 79, 42, 180, 0, 33, 27, 42, 180, 0, 29, 27, 51, 84]
abbrev dktX4_save_1 : List UInt8 := dkwX4_save_1 ++ dktX4_save_2
def dkwX4_save_0 : List UInt8 := [42, 42, 180, 0, 7, 181, 0, 16, 42, 42, 180, 0, 13, 181, 0, 19, 3, 60, 27, 16, 49, 162, 0, 33]
abbrev dktX4_save_0 : List UInt8 := dkwX4_save_0 ++ dktX4_save_1
theorem dksX4_save_0 : cX4_save.data.toList.drop 0 = dktX4_save_0 := by decide +kernel
theorem dksX4_save_1 : cX4_save.data.toList.drop 24 = dktX4_save_1 := dk_seg dksX4_save_0 24 rfl rfl
theorem dksX4_save_2 : cX4_save.data.toList.drop 48 = dktX4_save_2 := dk_seg dksX4_save_1 24 rfl rfl
theorem dX4_save_0 : decode cX4_save 0 = .ok (.aload_n 0, 1) := dk_42 (dk_at dksX4_save_0 0 rfl rfl)
theorem dX4_save_1 : decode cX4_save 1 = .ok (.aload_n 0, 1) := dk_42 (dk_at dksX4_save_0 1 rfl rfl)
theorem dX4_save_2 : decode cX4_save 2 = .ok (.getfield 7, 3) := dk_180 0 7 (dk_at dksX4_save_0 2 rfl rfl)
theorem dX4_save_5 : decode cX4_save 5 = .ok (.putfield 16, 3) := dk_181 0 16 (dk_at dksX4_save_0 5 rfl rfl)
theorem dX4_save_8 : decode cX4_save 8 = .ok (.aload_n 0, 1) := dk_42 (dk_at dksX4_save_0 8 rfl rfl)
theorem dX4_save_9 : decode cX4_save 9 = .ok (.aload_n 0, 1) := dk_42 (dk_at dksX4_save_0 9 rfl rfl)
theorem dX4_save_10 : decode cX4_save 10 = .ok (.getfield 13, 3) := dk_180 0 13 (dk_at dksX4_save_0 10 rfl rfl)
theorem dX4_save_13 : decode cX4_save 13 = .ok (.putfield 19, 3) := dk_181 0 19 (dk_at dksX4_save_0 13 rfl rfl)
theorem dX4_save_16 : decode cX4_save 16 = .ok (.iconst 0, 1) := dk_3 (dk_at dksX4_save_0 16 rfl rfl)
theorem dX4_save_17 : decode cX4_save 17 = .ok (.istore_n 1, 1) := dk_60 (dk_at dksX4_save_0 17 rfl rfl)
theorem dX4_save_18 : decode cX4_save 18 = .ok (.iload_n 1, 1) := dk_27 (dk_at dksX4_save_0 18 rfl rfl)
theorem dX4_save_19 : decode cX4_save 19 = .ok (.bipush 49, 2) := dk_16 49 (dk_at dksX4_save_0 19 rfl rfl)
theorem dX4_save_21 : decode cX4_save 21 = .ok (.if_icmp .ge 33, 3) := dk_162 0 33 (dk_at dksX4_save_0 21 rfl rfl)
theorem dX4_save_24 : decode cX4_save 24 = .ok (.aload_n 0, 1) := dk_42 (dk_at dksX4_save_1 0 rfl rfl)
theorem dX4_save_25 : decode cX4_save 25 = .ok (.getfield 26, 3) := dk_180 0 26 (dk_at dksX4_save_1 1 rfl rfl)
theorem dX4_save_28 : decode cX4_save 28 = .ok (.iload_n 1, 1) := dk_27 (dk_at dksX4_save_1 4 rfl rfl)
theorem dX4_save_29 : decode cX4_save 29 = .ok (.aload_n 0, 1) := dk_42 (dk_at dksX4_save_1 5 rfl rfl)
theorem dX4_save_30 : decode cX4_save 30 = .ok (.getfield 22, 3) := dk_180 0 22 (dk_at dksX4_save_1 6 rfl rfl)
theorem dX4_save_33 : decode cX4_save 33 = .ok (.iload_n 1, 1) := dk_27 (dk_at dksX4_save_1 9 rfl rfl)
theorem dX4_save_34 : decode cX4_save 34 = .ok (.iaload, 1) := dk_46 (dk_at dksX4_save_1 10 rfl rfl)
theorem dX4_save_35 : decode cX4_save 35 = .ok (.iastore, 1) := dk_79 (dk_at dksX4_save_1 11 rfl rfl)
theorem dX4_save_36 : decode cX4_save 36 = .ok (.aload_n 0, 1) := dk_42 (dk_at dksX4_save_1 12 rfl rfl)
theorem dX4_save_37 : decode cX4_save 37 = .ok (.getfield 33, 3) := dk_180 0 33 (dk_at dksX4_save_1 13 rfl rfl)
theorem dX4_save_40 : decode cX4_save 40 = .ok (.iload_n 1, 1) := dk_27 (dk_at dksX4_save_1 16 rfl rfl)
theorem dX4_save_41 : decode cX4_save 41 = .ok (.aload_n 0, 1) := dk_42 (dk_at dksX4_save_1 17 rfl rfl)
theorem dX4_save_42 : decode cX4_save 42 = .ok (.getfield 29, 3) := dk_180 0 29 (dk_at dksX4_save_1 18 rfl rfl)
theorem dX4_save_45 : decode cX4_save 45 = .ok (.iload_n 1, 1) := dk_27 (dk_at dksX4_save_1 21 rfl rfl)
theorem dX4_save_46 : decode cX4_save 46 = .ok (.baload, 1) := dk_51 (dk_at dksX4_save_1 22 rfl rfl)
theorem dX4_save_47 : decode cX4_save 47 = .ok (.bastore, 1) := dk_84 (dk_at dksX4_save_1 23 rfl rfl)
theorem dX4_save_48 : decode cX4_save 48 = .ok (.iinc 1 1, 3) := dk_132 1 1 (dk_at dksX4_save_2 0 rfl rfl)
theorem dX4_save_51 : decode cX4_save 51 = .ok (.goto (-33), 3) := dk_167 255 223 (dk_at dksX4_save_2 3 rfl rfl)
theorem dX4_save_54 : decode cX4_save 54 = .ok (.aload_n 0, 1) := dk_42 (dk_at dksX4_save_2 6 rfl rfl)
theorem dX4_save_55 : decode cX4_save 55 = .ok (.invokevirtual 153, 3) := dk_182 0 153 (dk_at dksX4_save_2 7 rfl rfl)
theorem dX4_save_58 : decode cX4_save 58 = .ok (.ireturn, 1) := dk_172 (dk_at dksX4_save_2 10 rfl rfl)
abbrev cX4_total : ByteArray := prog_7_method_37_code
def yX4_total : MethodName := ⟨RX4, "total", "()I"⟩
def dkwX4_total_1 : List UInt8 := [167, 255, 237, 27, 172]
abbrev dktX4_total_1 : List UInt8 := dkwX4_total_1 ++ []
def dkwX4_total_0 : List UInt8 := [3, 60, 3, 61, 28, 42, 180, 0, 7, 162, 0, 17, 27, 42, 28, 182, 0, 144, 96, 60, 132, 2, 1]
abbrev dktX4_total_0 : List UInt8 := dkwX4_total_0 ++ dktX4_total_1
theorem dksX4_total_0 : cX4_total.data.toList.drop 0 = dktX4_total_0 := by decide +kernel
theorem dksX4_total_1 : cX4_total.data.toList.drop 23 = dktX4_total_1 := dk_seg dksX4_total_0 23 rfl rfl
theorem dX4_total_0 : decode cX4_total 0 = .ok (.iconst 0, 1) := dk_3 (dk_at dksX4_total_0 0 rfl rfl)
theorem dX4_total_1 : decode cX4_total 1 = .ok (.istore_n 1, 1) := dk_60 (dk_at dksX4_total_0 1 rfl rfl)
theorem dX4_total_2 : decode cX4_total 2 = .ok (.iconst 0, 1) := dk_3 (dk_at dksX4_total_0 2 rfl rfl)
theorem dX4_total_3 : decode cX4_total 3 = .ok (.istore_n 2, 1) := dk_61 (dk_at dksX4_total_0 3 rfl rfl)
theorem dX4_total_4 : decode cX4_total 4 = .ok (.iload_n 2, 1) := dk_28 (dk_at dksX4_total_0 4 rfl rfl)
theorem dX4_total_5 : decode cX4_total 5 = .ok (.aload_n 0, 1) := dk_42 (dk_at dksX4_total_0 5 rfl rfl)
theorem dX4_total_6 : decode cX4_total 6 = .ok (.getfield 7, 3) := dk_180 0 7 (dk_at dksX4_total_0 6 rfl rfl)
theorem dX4_total_9 : decode cX4_total 9 = .ok (.if_icmp .ge 17, 3) := dk_162 0 17 (dk_at dksX4_total_0 9 rfl rfl)
theorem dX4_total_12 : decode cX4_total 12 = .ok (.iload_n 1, 1) := dk_27 (dk_at dksX4_total_0 12 rfl rfl)
theorem dX4_total_13 : decode cX4_total 13 = .ok (.aload_n 0, 1) := dk_42 (dk_at dksX4_total_0 13 rfl rfl)
theorem dX4_total_14 : decode cX4_total 14 = .ok (.iload_n 2, 1) := dk_28 (dk_at dksX4_total_0 14 rfl rfl)
theorem dX4_total_15 : decode cX4_total 15 = .ok (.invokevirtual 144, 3) := dk_182 0 144 (dk_at dksX4_total_0 15 rfl rfl)
theorem dX4_total_18 : decode cX4_total 18 = .ok (.iadd, 1) := dk_96 (dk_at dksX4_total_0 18 rfl rfl)
theorem dX4_total_19 : decode cX4_total 19 = .ok (.istore_n 1, 1) := dk_60 (dk_at dksX4_total_0 19 rfl rfl)
theorem dX4_total_20 : decode cX4_total 20 = .ok (.iinc 2 1, 3) := dk_132 2 1 (dk_at dksX4_total_0 20 rfl rfl)
theorem dX4_total_23 : decode cX4_total 23 = .ok (.goto (-19), 3) := dk_167 255 237 (dk_at dksX4_total_1 0 rfl rfl)
theorem dX4_total_26 : decode cX4_total 26 = .ok (.iload_n 1, 1) := dk_27 (dk_at dksX4_total_1 3 rfl rfl)
theorem dX4_total_27 : decode cX4_total 27 = .ok (.ireturn, 1) := dk_172 (dk_at dksX4_total_1 4 rfl rfl)
abbrev cX4_restore : ByteArray := prog_7_method_39_code
def yX4_restore : MethodName := ⟨RX4, "restore", "()I"⟩
def dkwX4_restore_2 : List UInt8 := [132, 1, 1, 167, 255, 223, 42, 2, 181, 0, 48, 42, 180, 0, 7, 172]
abbrev dktX4_restore_2 : List UInt8 := dkwX4_restore_2 ++ []
def dkwX4_restore_1 : List UInt8 := [42, 180, 0, 22, 27, 42, 180, 0, 26, 27, 46, 79, 42, 180, 0, 29, 27, 42, 180, 0, 33, 27, 51, 84]
abbrev dktX4_restore_1 : List UInt8 := dkwX4_restore_1 ++ dktX4_restore_2
def dkwX4_restore_0 : List UInt8 := [42, 42, 180, 0, 16, 181, 0, 7, 42, 42, 180, 0, 19, 181, 0, 13, 3, 60, 27, 16, 49, 162, 0, 33]
abbrev dktX4_restore_0 : List UInt8 := dkwX4_restore_0 ++ dktX4_restore_1
theorem dksX4_restore_0 : cX4_restore.data.toList.drop 0 = dktX4_restore_0 := by decide +kernel
theorem dksX4_restore_1 : cX4_restore.data.toList.drop 24 = dktX4_restore_1 := dk_seg dksX4_restore_0 24 rfl rfl
theorem dksX4_restore_2 : cX4_restore.data.toList.drop 48 = dktX4_restore_2 := dk_seg dksX4_restore_1 24 rfl rfl
theorem dX4_restore_0 : decode cX4_restore 0 = .ok (.aload_n 0, 1) := dk_42 (dk_at dksX4_restore_0 0 rfl rfl)
theorem dX4_restore_1 : decode cX4_restore 1 = .ok (.aload_n 0, 1) := dk_42 (dk_at dksX4_restore_0 1 rfl rfl)
theorem dX4_restore_2 : decode cX4_restore 2 = .ok (.getfield 16, 3) := dk_180 0 16 (dk_at dksX4_restore_0 2 rfl rfl)
theorem dX4_restore_5 : decode cX4_restore 5 = .ok (.putfield 7, 3) := dk_181 0 7 (dk_at dksX4_restore_0 5 rfl rfl)
theorem dX4_restore_8 : decode cX4_restore 8 = .ok (.aload_n 0, 1) := dk_42 (dk_at dksX4_restore_0 8 rfl rfl)
theorem dX4_restore_9 : decode cX4_restore 9 = .ok (.aload_n 0, 1) := dk_42 (dk_at dksX4_restore_0 9 rfl rfl)
theorem dX4_restore_10 : decode cX4_restore 10 = .ok (.getfield 19, 3) := dk_180 0 19 (dk_at dksX4_restore_0 10 rfl rfl)
theorem dX4_restore_13 : decode cX4_restore 13 = .ok (.putfield 13, 3) := dk_181 0 13 (dk_at dksX4_restore_0 13 rfl rfl)
theorem dX4_restore_16 : decode cX4_restore 16 = .ok (.iconst 0, 1) := dk_3 (dk_at dksX4_restore_0 16 rfl rfl)
theorem dX4_restore_17 : decode cX4_restore 17 = .ok (.istore_n 1, 1) := dk_60 (dk_at dksX4_restore_0 17 rfl rfl)
theorem dX4_restore_18 : decode cX4_restore 18 = .ok (.iload_n 1, 1) := dk_27 (dk_at dksX4_restore_0 18 rfl rfl)
theorem dX4_restore_19 : decode cX4_restore 19 = .ok (.bipush 49, 2) := dk_16 49 (dk_at dksX4_restore_0 19 rfl rfl)
theorem dX4_restore_21 : decode cX4_restore 21 = .ok (.if_icmp .ge 33, 3) := dk_162 0 33 (dk_at dksX4_restore_0 21 rfl rfl)
theorem dX4_restore_24 : decode cX4_restore 24 = .ok (.aload_n 0, 1) := dk_42 (dk_at dksX4_restore_1 0 rfl rfl)
theorem dX4_restore_25 : decode cX4_restore 25 = .ok (.getfield 22, 3) := dk_180 0 22 (dk_at dksX4_restore_1 1 rfl rfl)
theorem dX4_restore_28 : decode cX4_restore 28 = .ok (.iload_n 1, 1) := dk_27 (dk_at dksX4_restore_1 4 rfl rfl)
theorem dX4_restore_29 : decode cX4_restore 29 = .ok (.aload_n 0, 1) := dk_42 (dk_at dksX4_restore_1 5 rfl rfl)
theorem dX4_restore_30 : decode cX4_restore 30 = .ok (.getfield 26, 3) := dk_180 0 26 (dk_at dksX4_restore_1 6 rfl rfl)
theorem dX4_restore_33 : decode cX4_restore 33 = .ok (.iload_n 1, 1) := dk_27 (dk_at dksX4_restore_1 9 rfl rfl)
theorem dX4_restore_34 : decode cX4_restore 34 = .ok (.iaload, 1) := dk_46 (dk_at dksX4_restore_1 10 rfl rfl)
theorem dX4_restore_35 : decode cX4_restore 35 = .ok (.iastore, 1) := dk_79 (dk_at dksX4_restore_1 11 rfl rfl)
theorem dX4_restore_36 : decode cX4_restore 36 = .ok (.aload_n 0, 1) := dk_42 (dk_at dksX4_restore_1 12 rfl rfl)
theorem dX4_restore_37 : decode cX4_restore 37 = .ok (.getfield 29, 3) := dk_180 0 29 (dk_at dksX4_restore_1 13 rfl rfl)
theorem dX4_restore_40 : decode cX4_restore 40 = .ok (.iload_n 1, 1) := dk_27 (dk_at dksX4_restore_1 16 rfl rfl)
theorem dX4_restore_41 : decode cX4_restore 41 = .ok (.aload_n 0, 1) := dk_42 (dk_at dksX4_restore_1 17 rfl rfl)
theorem dX4_restore_42 : decode cX4_restore 42 = .ok (.getfield 33, 3) := dk_180 0 33 (dk_at dksX4_restore_1 18 rfl rfl)
theorem dX4_restore_45 : decode cX4_restore 45 = .ok (.iload_n 1, 1) := dk_27 (dk_at dksX4_restore_1 21 rfl rfl)
theorem dX4_restore_46 : decode cX4_restore 46 = .ok (.baload, 1) := dk_51 (dk_at dksX4_restore_1 22 rfl rfl)
theorem dX4_restore_47 : decode cX4_restore 47 = .ok (.bastore, 1) := dk_84 (dk_at dksX4_restore_1 23 rfl rfl)
theorem dX4_restore_48 : decode cX4_restore 48 = .ok (.iinc 1 1, 3) := dk_132 1 1 (dk_at dksX4_restore_2 0 rfl rfl)
theorem dX4_restore_51 : decode cX4_restore 51 = .ok (.goto (-33), 3) := dk_167 255 223 (dk_at dksX4_restore_2 3 rfl rfl)
theorem dX4_restore_54 : decode cX4_restore 54 = .ok (.aload_n 0, 1) := dk_42 (dk_at dksX4_restore_2 6 rfl rfl)
theorem dX4_restore_55 : decode cX4_restore 55 = .ok (.iconst (-1), 1) := dk_2 (dk_at dksX4_restore_2 7 rfl rfl)
theorem dX4_restore_56 : decode cX4_restore 56 = .ok (.putfield 48, 3) := dk_181 0 48 (dk_at dksX4_restore_2 8 rfl rfl)
theorem dX4_restore_59 : decode cX4_restore 59 = .ok (.aload_n 0, 1) := dk_42 (dk_at dksX4_restore_2 11 rfl rfl)
theorem dX4_restore_60 : decode cX4_restore 60 = .ok (.getfield 7, 3) := dk_180 0 7 (dk_at dksX4_restore_2 12 rfl rfl)
theorem dX4_restore_63 : decode cX4_restore 63 = .ok (.ireturn, 1) := dk_172 (dk_at dksX4_restore_2 15 rfl rfl)
abbrev cX4_distance : ByteArray := prog_7_method_40_code
def yX4_distance : MethodName := ⟨RX4, "distance", "()I"⟩
def dkwX4_distance_3 : List UInt8 := [167, 0, 5, 21, 4, 96, 60, 132, 3, 1, 167, 255, 214, 132, 2, 1, 167, 255, 198, 27, 172]
abbrev dktX4_distance_3 : List UInt8 := dkwX4_distance_3 ++ []
def dkwX4_distance_2 : List UInt8 := [29, 182, 0, 75, 42, 28, 29, 182, 0, 156, 100, 54, 4, 27, 21, 4, 156, 0, 9, 21, 4, 116]
abbrev dktX4_distance_2 : List UInt8 := dkwX4_distance_2 ++ dktX4_distance_3
def dkwX4_distance_1 : List UInt8 := [3, 60, 3, 61, 28, 42, 180, 0, 7, 162, 0, 56, 3, 62, 29, 42, 180, 0, 7, 162, 0, 40, 42, 28]
abbrev dktX4_distance_1 : List UInt8 := dkwX4_distance_1 ++ dktX4_distance_2
def dkwX4_distance_0 : List UInt8 := [42, 180, 0, 7, 42, 180, 0, 16, 160, 0, 14, 42, 180, 0, 13, 42, 180, 0, 19, 159, 0, 5, 2, 172]
abbrev dktX4_distance_0 : List UInt8 := dkwX4_distance_0 ++ dktX4_distance_1
theorem dksX4_distance_0 : cX4_distance.data.toList.drop 0 = dktX4_distance_0 := by decide +kernel
theorem dksX4_distance_1 : cX4_distance.data.toList.drop 24 = dktX4_distance_1 := dk_seg dksX4_distance_0 24 rfl rfl
theorem dksX4_distance_2 : cX4_distance.data.toList.drop 48 = dktX4_distance_2 := dk_seg dksX4_distance_1 24 rfl rfl
theorem dksX4_distance_3 : cX4_distance.data.toList.drop 70 = dktX4_distance_3 := dk_seg dksX4_distance_2 22 rfl rfl
theorem dX4_distance_0 : decode cX4_distance 0 = .ok (.aload_n 0, 1) := dk_42 (dk_at dksX4_distance_0 0 rfl rfl)
theorem dX4_distance_1 : decode cX4_distance 1 = .ok (.getfield 7, 3) := dk_180 0 7 (dk_at dksX4_distance_0 1 rfl rfl)
theorem dX4_distance_4 : decode cX4_distance 4 = .ok (.aload_n 0, 1) := dk_42 (dk_at dksX4_distance_0 4 rfl rfl)
theorem dX4_distance_5 : decode cX4_distance 5 = .ok (.getfield 16, 3) := dk_180 0 16 (dk_at dksX4_distance_0 5 rfl rfl)
theorem dX4_distance_8 : decode cX4_distance 8 = .ok (.if_icmp .ne 14, 3) := dk_160 0 14 (dk_at dksX4_distance_0 8 rfl rfl)
theorem dX4_distance_11 : decode cX4_distance 11 = .ok (.aload_n 0, 1) := dk_42 (dk_at dksX4_distance_0 11 rfl rfl)
theorem dX4_distance_12 : decode cX4_distance 12 = .ok (.getfield 13, 3) := dk_180 0 13 (dk_at dksX4_distance_0 12 rfl rfl)
theorem dX4_distance_15 : decode cX4_distance 15 = .ok (.aload_n 0, 1) := dk_42 (dk_at dksX4_distance_0 15 rfl rfl)
theorem dX4_distance_16 : decode cX4_distance 16 = .ok (.getfield 19, 3) := dk_180 0 19 (dk_at dksX4_distance_0 16 rfl rfl)
theorem dX4_distance_19 : decode cX4_distance 19 = .ok (.if_icmp .eq 5, 3) := dk_159 0 5 (dk_at dksX4_distance_0 19 rfl rfl)
theorem dX4_distance_22 : decode cX4_distance 22 = .ok (.iconst (-1), 1) := dk_2 (dk_at dksX4_distance_0 22 rfl rfl)
theorem dX4_distance_23 : decode cX4_distance 23 = .ok (.ireturn, 1) := dk_172 (dk_at dksX4_distance_0 23 rfl rfl)
theorem dX4_distance_24 : decode cX4_distance 24 = .ok (.iconst 0, 1) := dk_3 (dk_at dksX4_distance_1 0 rfl rfl)
theorem dX4_distance_25 : decode cX4_distance 25 = .ok (.istore_n 1, 1) := dk_60 (dk_at dksX4_distance_1 1 rfl rfl)
theorem dX4_distance_26 : decode cX4_distance 26 = .ok (.iconst 0, 1) := dk_3 (dk_at dksX4_distance_1 2 rfl rfl)
theorem dX4_distance_27 : decode cX4_distance 27 = .ok (.istore_n 2, 1) := dk_61 (dk_at dksX4_distance_1 3 rfl rfl)
theorem dX4_distance_28 : decode cX4_distance 28 = .ok (.iload_n 2, 1) := dk_28 (dk_at dksX4_distance_1 4 rfl rfl)
theorem dX4_distance_29 : decode cX4_distance 29 = .ok (.aload_n 0, 1) := dk_42 (dk_at dksX4_distance_1 5 rfl rfl)
theorem dX4_distance_30 : decode cX4_distance 30 = .ok (.getfield 7, 3) := dk_180 0 7 (dk_at dksX4_distance_1 6 rfl rfl)
theorem dX4_distance_33 : decode cX4_distance 33 = .ok (.if_icmp .ge 56, 3) := dk_162 0 56 (dk_at dksX4_distance_1 9 rfl rfl)
theorem dX4_distance_36 : decode cX4_distance 36 = .ok (.iconst 0, 1) := dk_3 (dk_at dksX4_distance_1 12 rfl rfl)
theorem dX4_distance_37 : decode cX4_distance 37 = .ok (.istore_n 3, 1) := dk_62 (dk_at dksX4_distance_1 13 rfl rfl)
theorem dX4_distance_38 : decode cX4_distance 38 = .ok (.iload_n 3, 1) := dk_29 (dk_at dksX4_distance_1 14 rfl rfl)
theorem dX4_distance_39 : decode cX4_distance 39 = .ok (.aload_n 0, 1) := dk_42 (dk_at dksX4_distance_1 15 rfl rfl)
theorem dX4_distance_40 : decode cX4_distance 40 = .ok (.getfield 7, 3) := dk_180 0 7 (dk_at dksX4_distance_1 16 rfl rfl)
theorem dX4_distance_43 : decode cX4_distance 43 = .ok (.if_icmp .ge 40, 3) := dk_162 0 40 (dk_at dksX4_distance_1 19 rfl rfl)
theorem dX4_distance_46 : decode cX4_distance 46 = .ok (.aload_n 0, 1) := dk_42 (dk_at dksX4_distance_1 22 rfl rfl)
theorem dX4_distance_47 : decode cX4_distance 47 = .ok (.iload_n 2, 1) := dk_28 (dk_at dksX4_distance_1 23 rfl rfl)
theorem dX4_distance_48 : decode cX4_distance 48 = .ok (.iload_n 3, 1) := dk_29 (dk_at dksX4_distance_2 0 rfl rfl)
theorem dX4_distance_49 : decode cX4_distance 49 = .ok (.invokevirtual 75, 3) := dk_182 0 75 (dk_at dksX4_distance_2 1 rfl rfl)
theorem dX4_distance_52 : decode cX4_distance 52 = .ok (.aload_n 0, 1) := dk_42 (dk_at dksX4_distance_2 4 rfl rfl)
theorem dX4_distance_53 : decode cX4_distance 53 = .ok (.iload_n 2, 1) := dk_28 (dk_at dksX4_distance_2 5 rfl rfl)
theorem dX4_distance_54 : decode cX4_distance 54 = .ok (.iload_n 3, 1) := dk_29 (dk_at dksX4_distance_2 6 rfl rfl)
theorem dX4_distance_55 : decode cX4_distance 55 = .ok (.invokevirtual 156, 3) := dk_182 0 156 (dk_at dksX4_distance_2 7 rfl rfl)
theorem dX4_distance_58 : decode cX4_distance 58 = .ok (.isub, 1) := dk_100 (dk_at dksX4_distance_2 10 rfl rfl)
theorem dX4_distance_59 : decode cX4_distance 59 = .ok (.istore 4, 2) := dk_54 4 (dk_at dksX4_distance_2 11 rfl rfl)
theorem dX4_distance_61 : decode cX4_distance 61 = .ok (.iload_n 1, 1) := dk_27 (dk_at dksX4_distance_2 13 rfl rfl)
theorem dX4_distance_62 : decode cX4_distance 62 = .ok (.iload 4, 2) := dk_21 4 (dk_at dksX4_distance_2 14 rfl rfl)
theorem dX4_distance_64 : decode cX4_distance 64 = .ok (.ifCond .ge 9, 3) := dk_156 0 9 (dk_at dksX4_distance_2 16 rfl rfl)
theorem dX4_distance_67 : decode cX4_distance 67 = .ok (.iload 4, 2) := dk_21 4 (dk_at dksX4_distance_2 19 rfl rfl)
theorem dX4_distance_69 : decode cX4_distance 69 = .ok (.ineg, 1) := dk_116 (dk_at dksX4_distance_2 21 rfl rfl)
theorem dX4_distance_70 : decode cX4_distance 70 = .ok (.goto 5, 3) := dk_167 0 5 (dk_at dksX4_distance_3 0 rfl rfl)
theorem dX4_distance_73 : decode cX4_distance 73 = .ok (.iload 4, 2) := dk_21 4 (dk_at dksX4_distance_3 3 rfl rfl)
theorem dX4_distance_75 : decode cX4_distance 75 = .ok (.iadd, 1) := dk_96 (dk_at dksX4_distance_3 5 rfl rfl)
theorem dX4_distance_76 : decode cX4_distance 76 = .ok (.istore_n 1, 1) := dk_60 (dk_at dksX4_distance_3 6 rfl rfl)
theorem dX4_distance_77 : decode cX4_distance 77 = .ok (.iinc 3 1, 3) := dk_132 3 1 (dk_at dksX4_distance_3 7 rfl rfl)
theorem dX4_distance_80 : decode cX4_distance 80 = .ok (.goto (-42), 3) := dk_167 255 214 (dk_at dksX4_distance_3 10 rfl rfl)
theorem dX4_distance_83 : decode cX4_distance 83 = .ok (.iinc 2 1, 3) := dk_132 2 1 (dk_at dksX4_distance_3 13 rfl rfl)
theorem dX4_distance_86 : decode cX4_distance 86 = .ok (.goto (-58), 3) := dk_167 255 198 (dk_at dksX4_distance_3 16 rfl rfl)
theorem dX4_distance_89 : decode cX4_distance 89 = .ok (.iload_n 1, 1) := dk_27 (dk_at dksX4_distance_3 19 rfl rfl)
theorem dX4_distance_90 : decode cX4_distance 90 = .ok (.ireturn, 1) := dk_172 (dk_at dksX4_distance_3 20 rfl rfl)
abbrev cX4_savedCost : ByteArray := prog_7_method_8_code
def yX4_savedCost : MethodName := ⟨RX4, "savedCost", "(II)I"⟩
def dkwX4_savedCost_1 : List UInt8 := [153, 0, 9, 17, 3, 232, 167, 0, 14, 42, 180, 0, 26, 16, 7, 27, 104, 28, 96, 46, 172]
abbrev dktX4_savedCost_1 : List UInt8 := dkwX4_savedCost_1 ++ []
def dkwX4_savedCost_0 : List UInt8 := [28, 42, 180, 0, 19, 161, 0, 7, 3, 167, 0, 34, 42, 180, 0, 33, 16, 7, 27, 104, 28, 96, 51]
abbrev dktX4_savedCost_0 : List UInt8 := dkwX4_savedCost_0 ++ dktX4_savedCost_1
theorem dksX4_savedCost_0 : cX4_savedCost.data.toList.drop 0 = dktX4_savedCost_0 := by decide +kernel
theorem dksX4_savedCost_1 : cX4_savedCost.data.toList.drop 23 = dktX4_savedCost_1 := dk_seg dksX4_savedCost_0 23 rfl rfl
theorem dX4_savedCost_0 : decode cX4_savedCost 0 = .ok (.iload_n 2, 1) := dk_28 (dk_at dksX4_savedCost_0 0 rfl rfl)
theorem dX4_savedCost_1 : decode cX4_savedCost 1 = .ok (.aload_n 0, 1) := dk_42 (dk_at dksX4_savedCost_0 1 rfl rfl)
theorem dX4_savedCost_2 : decode cX4_savedCost 2 = .ok (.getfield 19, 3) := dk_180 0 19 (dk_at dksX4_savedCost_0 2 rfl rfl)
theorem dX4_savedCost_5 : decode cX4_savedCost 5 = .ok (.if_icmp .lt 7, 3) := dk_161 0 7 (dk_at dksX4_savedCost_0 5 rfl rfl)
theorem dX4_savedCost_8 : decode cX4_savedCost 8 = .ok (.iconst 0, 1) := dk_3 (dk_at dksX4_savedCost_0 8 rfl rfl)
theorem dX4_savedCost_9 : decode cX4_savedCost 9 = .ok (.goto 34, 3) := dk_167 0 34 (dk_at dksX4_savedCost_0 9 rfl rfl)
theorem dX4_savedCost_12 : decode cX4_savedCost 12 = .ok (.aload_n 0, 1) := dk_42 (dk_at dksX4_savedCost_0 12 rfl rfl)
theorem dX4_savedCost_13 : decode cX4_savedCost 13 = .ok (.getfield 33, 3) := dk_180 0 33 (dk_at dksX4_savedCost_0 13 rfl rfl)
theorem dX4_savedCost_16 : decode cX4_savedCost 16 = .ok (.bipush 7, 2) := dk_16 7 (dk_at dksX4_savedCost_0 16 rfl rfl)
theorem dX4_savedCost_18 : decode cX4_savedCost 18 = .ok (.iload_n 1, 1) := dk_27 (dk_at dksX4_savedCost_0 18 rfl rfl)
theorem dX4_savedCost_19 : decode cX4_savedCost 19 = .ok (.imul, 1) := dk_104 (dk_at dksX4_savedCost_0 19 rfl rfl)
theorem dX4_savedCost_20 : decode cX4_savedCost 20 = .ok (.iload_n 2, 1) := dk_28 (dk_at dksX4_savedCost_0 20 rfl rfl)
theorem dX4_savedCost_21 : decode cX4_savedCost 21 = .ok (.iadd, 1) := dk_96 (dk_at dksX4_savedCost_0 21 rfl rfl)
theorem dX4_savedCost_22 : decode cX4_savedCost 22 = .ok (.baload, 1) := dk_51 (dk_at dksX4_savedCost_0 22 rfl rfl)
theorem dX4_savedCost_23 : decode cX4_savedCost 23 = .ok (.ifCond .eq 9, 3) := dk_153 0 9 (dk_at dksX4_savedCost_1 0 rfl rfl)
theorem dX4_savedCost_26 : decode cX4_savedCost 26 = .ok (.sipush 1000, 3) := dk_17 3 232 (dk_at dksX4_savedCost_1 3 rfl rfl)
theorem dX4_savedCost_29 : decode cX4_savedCost 29 = .ok (.goto 14, 3) := dk_167 0 14 (dk_at dksX4_savedCost_1 6 rfl rfl)
theorem dX4_savedCost_32 : decode cX4_savedCost 32 = .ok (.aload_n 0, 1) := dk_42 (dk_at dksX4_savedCost_1 9 rfl rfl)
theorem dX4_savedCost_33 : decode cX4_savedCost 33 = .ok (.getfield 26, 3) := dk_180 0 26 (dk_at dksX4_savedCost_1 10 rfl rfl)
theorem dX4_savedCost_36 : decode cX4_savedCost 36 = .ok (.bipush 7, 2) := dk_16 7 (dk_at dksX4_savedCost_1 13 rfl rfl)
theorem dX4_savedCost_38 : decode cX4_savedCost 38 = .ok (.iload_n 1, 1) := dk_27 (dk_at dksX4_savedCost_1 15 rfl rfl)
theorem dX4_savedCost_39 : decode cX4_savedCost 39 = .ok (.imul, 1) := dk_104 (dk_at dksX4_savedCost_1 16 rfl rfl)
theorem dX4_savedCost_40 : decode cX4_savedCost 40 = .ok (.iload_n 2, 1) := dk_28 (dk_at dksX4_savedCost_1 17 rfl rfl)
theorem dX4_savedCost_41 : decode cX4_savedCost 41 = .ok (.iadd, 1) := dk_96 (dk_at dksX4_savedCost_1 18 rfl rfl)
theorem dX4_savedCost_42 : decode cX4_savedCost 42 = .ok (.iaload, 1) := dk_46 (dk_at dksX4_savedCost_1 19 rfl rfl)
theorem dX4_savedCost_43 : decode cX4_savedCost 43 = .ok (.ireturn, 1) := dk_172 (dk_at dksX4_savedCost_1 20 rfl rfl)
abbrev cX4_rows : ByteArray := prog_7_method_41_code
def yX4_rows : MethodName := ⟨RX4, "rows", "()I"⟩
theorem dX4_rows_0 : decode cX4_rows 0 = .ok (.aload_n 0, 1) := by decide +kernel
theorem dX4_rows_1 : decode cX4_rows 1 = .ok (.getfield 7, 3) := by decide +kernel
theorem dX4_rows_4 : decode cX4_rows 4 = .ok (.ireturn, 1) := by decide +kernel
abbrev cX4_columns : ByteArray := prog_7_method_42_code
def yX4_columns : MethodName := ⟨RX4, "columns", "()I"⟩
theorem dX4_columns_0 : decode cX4_columns 0 = .ok (.aload_n 0, 1) := by decide +kernel
theorem dX4_columns_1 : decode cX4_columns 1 = .ok (.getfield 13, 3) := by decide +kernel
theorem dX4_columns_4 : decode cX4_columns 4 = .ok (.ireturn, 1) := by decide +kernel
abbrev cX4_forbiddenCount : ByteArray := prog_7_method_43_code
def yX4_forbiddenCount : MethodName := ⟨RX4, "forbiddenCount", "()I"⟩
theorem dX4_forbiddenCount_0 : decode cX4_forbiddenCount 0 = .ok (.aload_n 0, 1) := by decide +kernel
theorem dX4_forbiddenCount_1 : decode cX4_forbiddenCount 1 = .ok (.invokevirtual 134, 3) := by decide +kernel
theorem dX4_forbiddenCount_4 : decode cX4_forbiddenCount 4 = .ok (.ireturn, 1) := by decide +kernel
abbrev cX4_totalCost : ByteArray := prog_7_method_44_code
def yX4_totalCost : MethodName := ⟨RX4, "totalCost", "()I"⟩
theorem dX4_totalCost_0 : decode cX4_totalCost 0 = .ok (.aload_n 0, 1) := by decide +kernel
theorem dX4_totalCost_1 : decode cX4_totalCost 1 = .ok (.invokevirtual 153, 3) := by decide +kernel
theorem dX4_totalCost_4 : decode cX4_totalCost 4 = .ok (.ireturn, 1) := by decide +kernel
abbrev cX4_minimum : ByteArray := prog_7_method_45_code
def yX4_minimum : MethodName := ⟨RX4, "minimum", "()I"⟩
def dkwX4_minimum_0 : List UInt8 := [42, 182, 0, 114, 42, 180, 0, 80, 172]
abbrev dktX4_minimum_0 : List UInt8 := dkwX4_minimum_0 ++ []
theorem dksX4_minimum_0 : cX4_minimum.data.toList.drop 0 = dktX4_minimum_0 := by decide +kernel
theorem dX4_minimum_0 : decode cX4_minimum 0 = .ok (.aload_n 0, 1) := dk_42 (dk_at dksX4_minimum_0 0 rfl rfl)
theorem dX4_minimum_1 : decode cX4_minimum 1 = .ok (.invokevirtual 114, 3) := dk_182 0 114 (dk_at dksX4_minimum_0 1 rfl rfl)
theorem dX4_minimum_4 : decode cX4_minimum 4 = .ok (.aload_n 0, 1) := dk_42 (dk_at dksX4_minimum_0 4 rfl rfl)
theorem dX4_minimum_5 : decode cX4_minimum 5 = .ok (.getfield 80, 3) := dk_180 0 80 (dk_at dksX4_minimum_0 5 rfl rfl)
theorem dX4_minimum_8 : decode cX4_minimum 8 = .ok (.ireturn, 1) := dk_172 (dk_at dksX4_minimum_0 8 rfl rfl)
abbrev cX4_look : ByteArray := prog_7_method_17_code
def yX4_look : MethodName := ⟨RX4, "look", "()V"⟩
def dkwX4_look_0 : List UInt8 := [42, 182, 0, 108, 42, 42, 180, 0, 7, 182, 0, 111, 177]
abbrev dktX4_look_0 : List UInt8 := dkwX4_look_0 ++ []
theorem dksX4_look_0 : cX4_look.data.toList.drop 0 = dktX4_look_0 := by decide +kernel
theorem dX4_look_0 : decode cX4_look 0 = .ok (.aload_n 0, 1) := dk_42 (dk_at dksX4_look_0 0 rfl rfl)
theorem dX4_look_1 : decode cX4_look 1 = .ok (.invokevirtual 108, 3) := dk_182 0 108 (dk_at dksX4_look_0 1 rfl rfl)
theorem dX4_look_4 : decode cX4_look 4 = .ok (.aload_n 0, 1) := dk_42 (dk_at dksX4_look_0 4 rfl rfl)
theorem dX4_look_5 : decode cX4_look 5 = .ok (.aload_n 0, 1) := dk_42 (dk_at dksX4_look_0 5 rfl rfl)
theorem dX4_look_6 : decode cX4_look 6 = .ok (.getfield 7, 3) := dk_180 0 7 (dk_at dksX4_look_0 6 rfl rfl)
theorem dX4_look_9 : decode cX4_look 9 = .ok (.invokevirtual 111, 3) := dk_182 0 111 (dk_at dksX4_look_0 9 rfl rfl)
theorem dX4_look_12 : decode cX4_look 12 = .ok (.return_, 1) := dk_177 (dk_at dksX4_look_0 12 rfl rfl)
abbrev cX4_take : ByteArray := prog_7_method_14_code
def yX4_take : MethodName := ⟨RX4, "take", "()V"⟩
def dkwX4_take_2 : List UInt8 := [167, 255, 212, 177]
abbrev dktX4_take_2 : List UInt8 := dkwX4_take_2 ++ []
def dkwX4_take_1 : List UInt8 := [16, 7, 27, 104, 28, 96, 42, 27, 28, 182, 0, 75, 79, 132, 2, 1, 167, 255, 228, 132, 1, 1]
abbrev dktX4_take_1 : List UInt8 := dkwX4_take_1 ++ dktX4_take_2
def dkwX4_take_0 : List UInt8 := [3, 60, 27, 42, 180, 0, 7, 162, 0, 42, 3, 61, 28, 42, 180, 0, 7, 162, 0, 26, 42, 180, 0, 36]
abbrev dktX4_take_0 : List UInt8 := dkwX4_take_0 ++ dktX4_take_1
theorem dksX4_take_0 : cX4_take.data.toList.drop 0 = dktX4_take_0 := by decide +kernel
theorem dksX4_take_1 : cX4_take.data.toList.drop 24 = dktX4_take_1 := dk_seg dksX4_take_0 24 rfl rfl
theorem dksX4_take_2 : cX4_take.data.toList.drop 46 = dktX4_take_2 := dk_seg dksX4_take_1 22 rfl rfl
theorem dX4_take_0 : decode cX4_take 0 = .ok (.iconst 0, 1) := dk_3 (dk_at dksX4_take_0 0 rfl rfl)
theorem dX4_take_1 : decode cX4_take 1 = .ok (.istore_n 1, 1) := dk_60 (dk_at dksX4_take_0 1 rfl rfl)
theorem dX4_take_2 : decode cX4_take 2 = .ok (.iload_n 1, 1) := dk_27 (dk_at dksX4_take_0 2 rfl rfl)
theorem dX4_take_3 : decode cX4_take 3 = .ok (.aload_n 0, 1) := dk_42 (dk_at dksX4_take_0 3 rfl rfl)
theorem dX4_take_4 : decode cX4_take 4 = .ok (.getfield 7, 3) := dk_180 0 7 (dk_at dksX4_take_0 4 rfl rfl)
theorem dX4_take_7 : decode cX4_take 7 = .ok (.if_icmp .ge 42, 3) := dk_162 0 42 (dk_at dksX4_take_0 7 rfl rfl)
theorem dX4_take_10 : decode cX4_take 10 = .ok (.iconst 0, 1) := dk_3 (dk_at dksX4_take_0 10 rfl rfl)
theorem dX4_take_11 : decode cX4_take 11 = .ok (.istore_n 2, 1) := dk_61 (dk_at dksX4_take_0 11 rfl rfl)
theorem dX4_take_12 : decode cX4_take 12 = .ok (.iload_n 2, 1) := dk_28 (dk_at dksX4_take_0 12 rfl rfl)
theorem dX4_take_13 : decode cX4_take 13 = .ok (.aload_n 0, 1) := dk_42 (dk_at dksX4_take_0 13 rfl rfl)
theorem dX4_take_14 : decode cX4_take 14 = .ok (.getfield 7, 3) := dk_180 0 7 (dk_at dksX4_take_0 14 rfl rfl)
theorem dX4_take_17 : decode cX4_take 17 = .ok (.if_icmp .ge 26, 3) := dk_162 0 26 (dk_at dksX4_take_0 17 rfl rfl)
theorem dX4_take_20 : decode cX4_take 20 = .ok (.aload_n 0, 1) := dk_42 (dk_at dksX4_take_0 20 rfl rfl)
theorem dX4_take_21 : decode cX4_take 21 = .ok (.getfield 36, 3) := dk_180 0 36 (dk_at dksX4_take_0 21 rfl rfl)
theorem dX4_take_24 : decode cX4_take 24 = .ok (.bipush 7, 2) := dk_16 7 (dk_at dksX4_take_1 0 rfl rfl)
theorem dX4_take_26 : decode cX4_take 26 = .ok (.iload_n 1, 1) := dk_27 (dk_at dksX4_take_1 2 rfl rfl)
theorem dX4_take_27 : decode cX4_take 27 = .ok (.imul, 1) := dk_104 (dk_at dksX4_take_1 3 rfl rfl)
theorem dX4_take_28 : decode cX4_take 28 = .ok (.iload_n 2, 1) := dk_28 (dk_at dksX4_take_1 4 rfl rfl)
theorem dX4_take_29 : decode cX4_take 29 = .ok (.iadd, 1) := dk_96 (dk_at dksX4_take_1 5 rfl rfl)
theorem dX4_take_30 : decode cX4_take 30 = .ok (.aload_n 0, 1) := dk_42 (dk_at dksX4_take_1 6 rfl rfl)
theorem dX4_take_31 : decode cX4_take 31 = .ok (.iload_n 1, 1) := dk_27 (dk_at dksX4_take_1 7 rfl rfl)
theorem dX4_take_32 : decode cX4_take 32 = .ok (.iload_n 2, 1) := dk_28 (dk_at dksX4_take_1 8 rfl rfl)
theorem dX4_take_33 : decode cX4_take 33 = .ok (.invokevirtual 75, 3) := dk_182 0 75 (dk_at dksX4_take_1 9 rfl rfl)
theorem dX4_take_36 : decode cX4_take 36 = .ok (.iastore, 1) := dk_79 (dk_at dksX4_take_1 12 rfl rfl)
theorem dX4_take_37 : decode cX4_take 37 = .ok (.iinc 2 1, 3) := dk_132 2 1 (dk_at dksX4_take_1 13 rfl rfl)
theorem dX4_take_40 : decode cX4_take 40 = .ok (.goto (-28), 3) := dk_167 255 228 (dk_at dksX4_take_1 16 rfl rfl)
theorem dX4_take_43 : decode cX4_take 43 = .ok (.iinc 1 1, 3) := dk_132 1 1 (dk_at dksX4_take_1 19 rfl rfl)
theorem dX4_take_46 : decode cX4_take 46 = .ok (.goto (-44), 3) := dk_167 255 212 (dk_at dksX4_take_2 0 rfl rfl)
theorem dX4_take_49 : decode cX4_take 49 = .ok (.return_, 1) := dk_177 (dk_at dksX4_take_2 3 rfl rfl)
abbrev cX4_look_2 : ByteArray := prog_7_method_15_code
def yX4_look_2 : MethodName := ⟨RX4, "look", "(I)V"⟩
def dkwX4_look_2_3 : List UInt8 := [182, 0, 101, 42, 27, 182, 0, 104, 132, 2, 255, 167, 255, 234, 177]
abbrev dktX4_look_2_3 : List UInt8 := dkwX4_look_2_3 ++ []
def dkwX4_look_2_2 : List UInt8 := [167, 255, 239, 42, 182, 0, 95, 27, 184, 0, 67, 61, 28, 158, 0, 24, 42, 27, 42, 27, 182, 0, 98]
abbrev dktX4_look_2_2 : List UInt8 := dkwX4_look_2_2 ++ dktX4_look_2_3
def dkwX4_look_2_1 : List UInt8 := [18, 79, 181, 0, 92, 3, 61, 28, 16, 49, 162, 0, 17, 42, 180, 0, 39, 28, 18, 79, 79, 132, 2, 1]
abbrev dktX4_look_2_1 : List UInt8 := dkwX4_look_2_1 ++ dktX4_look_2_2
def dkwX4_look_2_0 : List UInt8 := [42, 18, 79, 181, 0, 80, 42, 3, 181, 0, 83, 42, 18, 79, 181, 0, 86, 42, 2, 181, 0, 89, 42]
abbrev dktX4_look_2_0 : List UInt8 := dkwX4_look_2_0 ++ dktX4_look_2_1
theorem dksX4_look_2_0 : cX4_look_2.data.toList.drop 0 = dktX4_look_2_0 := by decide +kernel
theorem dksX4_look_2_1 : cX4_look_2.data.toList.drop 23 = dktX4_look_2_1 := dk_seg dksX4_look_2_0 23 rfl rfl
theorem dksX4_look_2_2 : cX4_look_2.data.toList.drop 47 = dktX4_look_2_2 := dk_seg dksX4_look_2_1 24 rfl rfl
theorem dksX4_look_2_3 : cX4_look_2.data.toList.drop 70 = dktX4_look_2_3 := dk_seg dksX4_look_2_2 23 rfl rfl
theorem dX4_look_2_0 : decode cX4_look_2 0 = .ok (.aload_n 0, 1) := dk_42 (dk_at dksX4_look_2_0 0 rfl rfl)
theorem dX4_look_2_1 : decode cX4_look_2 1 = .ok (.ldc 79, 2) := dk_18 79 (dk_at dksX4_look_2_0 1 rfl rfl)
theorem dX4_look_2_3 : decode cX4_look_2 3 = .ok (.putfield 80, 3) := dk_181 0 80 (dk_at dksX4_look_2_0 3 rfl rfl)
theorem dX4_look_2_6 : decode cX4_look_2 6 = .ok (.aload_n 0, 1) := dk_42 (dk_at dksX4_look_2_0 6 rfl rfl)
theorem dX4_look_2_7 : decode cX4_look_2 7 = .ok (.iconst 0, 1) := dk_3 (dk_at dksX4_look_2_0 7 rfl rfl)
theorem dX4_look_2_8 : decode cX4_look_2 8 = .ok (.putfield 83, 3) := dk_181 0 83 (dk_at dksX4_look_2_0 8 rfl rfl)
theorem dX4_look_2_11 : decode cX4_look_2 11 = .ok (.aload_n 0, 1) := dk_42 (dk_at dksX4_look_2_0 11 rfl rfl)
theorem dX4_look_2_12 : decode cX4_look_2 12 = .ok (.ldc 79, 2) := dk_18 79 (dk_at dksX4_look_2_0 12 rfl rfl)
theorem dX4_look_2_14 : decode cX4_look_2 14 = .ok (.putfield 86, 3) := dk_181 0 86 (dk_at dksX4_look_2_0 14 rfl rfl)
theorem dX4_look_2_17 : decode cX4_look_2 17 = .ok (.aload_n 0, 1) := dk_42 (dk_at dksX4_look_2_0 17 rfl rfl)
theorem dX4_look_2_18 : decode cX4_look_2 18 = .ok (.iconst (-1), 1) := dk_2 (dk_at dksX4_look_2_0 18 rfl rfl)
theorem dX4_look_2_19 : decode cX4_look_2 19 = .ok (.putfield 89, 3) := dk_181 0 89 (dk_at dksX4_look_2_0 19 rfl rfl)
theorem dX4_look_2_22 : decode cX4_look_2 22 = .ok (.aload_n 0, 1) := dk_42 (dk_at dksX4_look_2_0 22 rfl rfl)
theorem dX4_look_2_23 : decode cX4_look_2 23 = .ok (.ldc 79, 2) := dk_18 79 (dk_at dksX4_look_2_1 0 rfl rfl)
theorem dX4_look_2_25 : decode cX4_look_2 25 = .ok (.putfield 92, 3) := dk_181 0 92 (dk_at dksX4_look_2_1 2 rfl rfl)
theorem dX4_look_2_28 : decode cX4_look_2 28 = .ok (.iconst 0, 1) := dk_3 (dk_at dksX4_look_2_1 5 rfl rfl)
theorem dX4_look_2_29 : decode cX4_look_2 29 = .ok (.istore_n 2, 1) := dk_61 (dk_at dksX4_look_2_1 6 rfl rfl)
theorem dX4_look_2_30 : decode cX4_look_2 30 = .ok (.iload_n 2, 1) := dk_28 (dk_at dksX4_look_2_1 7 rfl rfl)
theorem dX4_look_2_31 : decode cX4_look_2 31 = .ok (.bipush 49, 2) := dk_16 49 (dk_at dksX4_look_2_1 8 rfl rfl)
theorem dX4_look_2_33 : decode cX4_look_2 33 = .ok (.if_icmp .ge 17, 3) := dk_162 0 17 (dk_at dksX4_look_2_1 10 rfl rfl)
theorem dX4_look_2_36 : decode cX4_look_2 36 = .ok (.aload_n 0, 1) := dk_42 (dk_at dksX4_look_2_1 13 rfl rfl)
theorem dX4_look_2_37 : decode cX4_look_2 37 = .ok (.getfield 39, 3) := dk_180 0 39 (dk_at dksX4_look_2_1 14 rfl rfl)
theorem dX4_look_2_40 : decode cX4_look_2 40 = .ok (.iload_n 2, 1) := dk_28 (dk_at dksX4_look_2_1 17 rfl rfl)
theorem dX4_look_2_41 : decode cX4_look_2 41 = .ok (.ldc 79, 2) := dk_18 79 (dk_at dksX4_look_2_1 18 rfl rfl)
theorem dX4_look_2_43 : decode cX4_look_2 43 = .ok (.iastore, 1) := dk_79 (dk_at dksX4_look_2_1 20 rfl rfl)
theorem dX4_look_2_44 : decode cX4_look_2 44 = .ok (.iinc 2 1, 3) := dk_132 2 1 (dk_at dksX4_look_2_1 21 rfl rfl)
theorem dX4_look_2_47 : decode cX4_look_2 47 = .ok (.goto (-17), 3) := dk_167 255 239 (dk_at dksX4_look_2_2 0 rfl rfl)
theorem dX4_look_2_50 : decode cX4_look_2 50 = .ok (.aload_n 0, 1) := dk_42 (dk_at dksX4_look_2_2 3 rfl rfl)
theorem dX4_look_2_51 : decode cX4_look_2 51 = .ok (.invokevirtual 95, 3) := dk_182 0 95 (dk_at dksX4_look_2_2 4 rfl rfl)
theorem dX4_look_2_54 : decode cX4_look_2 54 = .ok (.iload_n 1, 1) := dk_27 (dk_at dksX4_look_2_2 7 rfl rfl)
theorem dX4_look_2_55 : decode cX4_look_2 55 = .ok (.invokestatic 67, 3) := dk_184 0 67 (dk_at dksX4_look_2_2 8 rfl rfl)
theorem dX4_look_2_58 : decode cX4_look_2 58 = .ok (.istore_n 2, 1) := dk_61 (dk_at dksX4_look_2_2 11 rfl rfl)
theorem dX4_look_2_59 : decode cX4_look_2 59 = .ok (.iload_n 2, 1) := dk_28 (dk_at dksX4_look_2_2 12 rfl rfl)
theorem dX4_look_2_60 : decode cX4_look_2 60 = .ok (.ifCond .le 24, 3) := dk_158 0 24 (dk_at dksX4_look_2_2 13 rfl rfl)
theorem dX4_look_2_63 : decode cX4_look_2 63 = .ok (.aload_n 0, 1) := dk_42 (dk_at dksX4_look_2_2 16 rfl rfl)
theorem dX4_look_2_64 : decode cX4_look_2 64 = .ok (.iload_n 1, 1) := dk_27 (dk_at dksX4_look_2_2 17 rfl rfl)
theorem dX4_look_2_65 : decode cX4_look_2 65 = .ok (.aload_n 0, 1) := dk_42 (dk_at dksX4_look_2_2 18 rfl rfl)
theorem dX4_look_2_66 : decode cX4_look_2 66 = .ok (.iload_n 1, 1) := dk_27 (dk_at dksX4_look_2_2 19 rfl rfl)
theorem dX4_look_2_67 : decode cX4_look_2 67 = .ok (.invokevirtual 98, 3) := dk_182 0 98 (dk_at dksX4_look_2_2 20 rfl rfl)
theorem dX4_look_2_70 : decode cX4_look_2 70 = .ok (.invokevirtual 101, 3) := dk_182 0 101 (dk_at dksX4_look_2_3 0 rfl rfl)
theorem dX4_look_2_73 : decode cX4_look_2 73 = .ok (.aload_n 0, 1) := dk_42 (dk_at dksX4_look_2_3 3 rfl rfl)
theorem dX4_look_2_74 : decode cX4_look_2 74 = .ok (.iload_n 1, 1) := dk_27 (dk_at dksX4_look_2_3 4 rfl rfl)
theorem dX4_look_2_75 : decode cX4_look_2 75 = .ok (.invokevirtual 104, 3) := dk_182 0 104 (dk_at dksX4_look_2_3 5 rfl rfl)
theorem dX4_look_2_78 : decode cX4_look_2 78 = .ok (.iinc 2 (-1), 3) := dk_132 2 255 (dk_at dksX4_look_2_3 8 rfl rfl)
theorem dX4_look_2_81 : decode cX4_look_2 81 = .ok (.goto (-22), 3) := dk_167 255 234 (dk_at dksX4_look_2_3 11 rfl rfl)
theorem dX4_look_2_84 : decode cX4_look_2 84 = .ok (.return_, 1) := dk_177 (dk_at dksX4_look_2_3 14 rfl rfl)
abbrev cX4_begin : ByteArray := prog_7_method_10_code
def yX4_begin : MethodName := ⟨RX4, "begin", "()V"⟩
def dkwX4_begin_0 : List UInt8 := [3, 60, 27, 16, 7, 162, 0, 16, 42, 180, 0, 42, 27, 27, 79, 132, 1, 1, 167, 255, 240, 177]
abbrev dktX4_begin_0 : List UInt8 := dkwX4_begin_0 ++ []
theorem dksX4_begin_0 : cX4_begin.data.toList.drop 0 = dktX4_begin_0 := by decide +kernel
theorem dX4_begin_0 : decode cX4_begin 0 = .ok (.iconst 0, 1) := dk_3 (dk_at dksX4_begin_0 0 rfl rfl)
theorem dX4_begin_1 : decode cX4_begin 1 = .ok (.istore_n 1, 1) := dk_60 (dk_at dksX4_begin_0 1 rfl rfl)
theorem dX4_begin_2 : decode cX4_begin 2 = .ok (.iload_n 1, 1) := dk_27 (dk_at dksX4_begin_0 2 rfl rfl)
theorem dX4_begin_3 : decode cX4_begin 3 = .ok (.bipush 7, 2) := dk_16 7 (dk_at dksX4_begin_0 3 rfl rfl)
theorem dX4_begin_5 : decode cX4_begin 5 = .ok (.if_icmp .ge 16, 3) := dk_162 0 16 (dk_at dksX4_begin_0 5 rfl rfl)
theorem dX4_begin_8 : decode cX4_begin 8 = .ok (.aload_n 0, 1) := dk_42 (dk_at dksX4_begin_0 8 rfl rfl)
theorem dX4_begin_9 : decode cX4_begin 9 = .ok (.getfield 42, 3) := dk_180 0 42 (dk_at dksX4_begin_0 9 rfl rfl)
theorem dX4_begin_12 : decode cX4_begin 12 = .ok (.iload_n 1, 1) := dk_27 (dk_at dksX4_begin_0 12 rfl rfl)
theorem dX4_begin_13 : decode cX4_begin 13 = .ok (.iload_n 1, 1) := dk_27 (dk_at dksX4_begin_0 13 rfl rfl)
theorem dX4_begin_14 : decode cX4_begin 14 = .ok (.iastore, 1) := dk_79 (dk_at dksX4_begin_0 14 rfl rfl)
theorem dX4_begin_15 : decode cX4_begin 15 = .ok (.iinc 1 1, 3) := dk_132 1 1 (dk_at dksX4_begin_0 15 rfl rfl)
theorem dX4_begin_18 : decode cX4_begin 18 = .ok (.goto (-16), 3) := dk_167 255 240 (dk_at dksX4_begin_0 18 rfl rfl)
theorem dX4_begin_21 : decode cX4_begin 21 = .ok (.return_, 1) := dk_177 (dk_at dksX4_begin_0 21 rfl rfl)
abbrev cX4_factorial : ByteArray := prog_7_method_9_code
def yX4_factorial : MethodName := ⟨RX4, "factorial", "(I)I"⟩
def dkwX4_factorial_0 : List UInt8 := [26, 5, 162, 0, 7, 4, 167, 0, 11, 26, 26, 4, 100, 184, 0, 67, 104, 172]
abbrev dktX4_factorial_0 : List UInt8 := dkwX4_factorial_0 ++ []
theorem dksX4_factorial_0 : cX4_factorial.data.toList.drop 0 = dktX4_factorial_0 := by decide +kernel
theorem dX4_factorial_0 : decode cX4_factorial 0 = .ok (.iload_n 0, 1) := dk_26 (dk_at dksX4_factorial_0 0 rfl rfl)
theorem dX4_factorial_1 : decode cX4_factorial 1 = .ok (.iconst 2, 1) := dk_5 (dk_at dksX4_factorial_0 1 rfl rfl)
theorem dX4_factorial_2 : decode cX4_factorial 2 = .ok (.if_icmp .ge 7, 3) := dk_162 0 7 (dk_at dksX4_factorial_0 2 rfl rfl)
theorem dX4_factorial_5 : decode cX4_factorial 5 = .ok (.iconst 1, 1) := dk_4 (dk_at dksX4_factorial_0 5 rfl rfl)
theorem dX4_factorial_6 : decode cX4_factorial 6 = .ok (.goto 11, 3) := dk_167 0 11 (dk_at dksX4_factorial_0 6 rfl rfl)
theorem dX4_factorial_9 : decode cX4_factorial 9 = .ok (.iload_n 0, 1) := dk_26 (dk_at dksX4_factorial_0 9 rfl rfl)
theorem dX4_factorial_10 : decode cX4_factorial 10 = .ok (.iload_n 0, 1) := dk_26 (dk_at dksX4_factorial_0 10 rfl rfl)
theorem dX4_factorial_11 : decode cX4_factorial 11 = .ok (.iconst 1, 1) := dk_4 (dk_at dksX4_factorial_0 11 rfl rfl)
theorem dX4_factorial_12 : decode cX4_factorial 12 = .ok (.isub, 1) := dk_100 (dk_at dksX4_factorial_0 12 rfl rfl)
theorem dX4_factorial_13 : decode cX4_factorial 13 = .ok (.invokestatic 67, 3) := dk_184 0 67 (dk_at dksX4_factorial_0 13 rfl rfl)
theorem dX4_factorial_16 : decode cX4_factorial 16 = .ok (.imul, 1) := dk_104 (dk_at dksX4_factorial_0 16 rfl rfl)
theorem dX4_factorial_17 : decode cX4_factorial 17 = .ok (.ireturn, 1) := dk_172 (dk_at dksX4_factorial_0 17 rfl rfl)
abbrev cX4_sum : ByteArray := prog_7_method_13_code
def yX4_sum : MethodName := ⟨RX4, "sum", "(I)I"⟩
def dkwX4_sum_1 : List UInt8 := [96, 46, 96, 61, 132, 3, 1, 167, 255, 229, 28, 172]
abbrev dktX4_sum_1 : List UInt8 := dkwX4_sum_1 ++ []
def dkwX4_sum_0 : List UInt8 := [3, 61, 3, 62, 29, 27, 162, 0, 28, 28, 42, 180, 0, 36, 16, 7, 29, 104, 42, 180, 0, 42, 29, 46]
abbrev dktX4_sum_0 : List UInt8 := dkwX4_sum_0 ++ dktX4_sum_1
theorem dksX4_sum_0 : cX4_sum.data.toList.drop 0 = dktX4_sum_0 := by decide +kernel
theorem dksX4_sum_1 : cX4_sum.data.toList.drop 24 = dktX4_sum_1 := dk_seg dksX4_sum_0 24 rfl rfl
theorem dX4_sum_0 : decode cX4_sum 0 = .ok (.iconst 0, 1) := dk_3 (dk_at dksX4_sum_0 0 rfl rfl)
theorem dX4_sum_1 : decode cX4_sum 1 = .ok (.istore_n 2, 1) := dk_61 (dk_at dksX4_sum_0 1 rfl rfl)
theorem dX4_sum_2 : decode cX4_sum 2 = .ok (.iconst 0, 1) := dk_3 (dk_at dksX4_sum_0 2 rfl rfl)
theorem dX4_sum_3 : decode cX4_sum 3 = .ok (.istore_n 3, 1) := dk_62 (dk_at dksX4_sum_0 3 rfl rfl)
theorem dX4_sum_4 : decode cX4_sum 4 = .ok (.iload_n 3, 1) := dk_29 (dk_at dksX4_sum_0 4 rfl rfl)
theorem dX4_sum_5 : decode cX4_sum 5 = .ok (.iload_n 1, 1) := dk_27 (dk_at dksX4_sum_0 5 rfl rfl)
theorem dX4_sum_6 : decode cX4_sum 6 = .ok (.if_icmp .ge 28, 3) := dk_162 0 28 (dk_at dksX4_sum_0 6 rfl rfl)
theorem dX4_sum_9 : decode cX4_sum 9 = .ok (.iload_n 2, 1) := dk_28 (dk_at dksX4_sum_0 9 rfl rfl)
theorem dX4_sum_10 : decode cX4_sum 10 = .ok (.aload_n 0, 1) := dk_42 (dk_at dksX4_sum_0 10 rfl rfl)
theorem dX4_sum_11 : decode cX4_sum 11 = .ok (.getfield 36, 3) := dk_180 0 36 (dk_at dksX4_sum_0 11 rfl rfl)
theorem dX4_sum_14 : decode cX4_sum 14 = .ok (.bipush 7, 2) := dk_16 7 (dk_at dksX4_sum_0 14 rfl rfl)
theorem dX4_sum_16 : decode cX4_sum 16 = .ok (.iload_n 3, 1) := dk_29 (dk_at dksX4_sum_0 16 rfl rfl)
theorem dX4_sum_17 : decode cX4_sum 17 = .ok (.imul, 1) := dk_104 (dk_at dksX4_sum_0 17 rfl rfl)
theorem dX4_sum_18 : decode cX4_sum 18 = .ok (.aload_n 0, 1) := dk_42 (dk_at dksX4_sum_0 18 rfl rfl)
theorem dX4_sum_19 : decode cX4_sum 19 = .ok (.getfield 42, 3) := dk_180 0 42 (dk_at dksX4_sum_0 19 rfl rfl)
theorem dX4_sum_22 : decode cX4_sum 22 = .ok (.iload_n 3, 1) := dk_29 (dk_at dksX4_sum_0 22 rfl rfl)
theorem dX4_sum_23 : decode cX4_sum 23 = .ok (.iaload, 1) := dk_46 (dk_at dksX4_sum_0 23 rfl rfl)
theorem dX4_sum_24 : decode cX4_sum 24 = .ok (.iadd, 1) := dk_96 (dk_at dksX4_sum_1 0 rfl rfl)
theorem dX4_sum_25 : decode cX4_sum 25 = .ok (.iaload, 1) := dk_46 (dk_at dksX4_sum_1 1 rfl rfl)
theorem dX4_sum_26 : decode cX4_sum 26 = .ok (.iadd, 1) := dk_96 (dk_at dksX4_sum_1 2 rfl rfl)
theorem dX4_sum_27 : decode cX4_sum 27 = .ok (.istore_n 2, 1) := dk_61 (dk_at dksX4_sum_1 3 rfl rfl)
theorem dX4_sum_28 : decode cX4_sum 28 = .ok (.iinc 3 1, 3) := dk_132 3 1 (dk_at dksX4_sum_1 4 rfl rfl)
theorem dX4_sum_31 : decode cX4_sum 31 = .ok (.goto (-27), 3) := dk_167 255 229 (dk_at dksX4_sum_1 7 rfl rfl)
theorem dX4_sum_34 : decode cX4_sum 34 = .ok (.iload_n 2, 1) := dk_28 (dk_at dksX4_sum_1 10 rfl rfl)
theorem dX4_sum_35 : decode cX4_sum 35 = .ok (.ireturn, 1) := dk_172 (dk_at dksX4_sum_1 11 rfl rfl)
abbrev cX4_see : ByteArray := prog_7_method_16_code
def yX4_see : MethodName := ⟨RX4, "see", "(II)V"⟩
def dkwX4_see_9 : List UInt8 := [89, 180, 0, 83, 28, 42, 180, 0, 80, 160, 0, 7, 4, 167, 0, 4, 3, 96, 181, 0, 83, 177]
abbrev dktX4_see_9 : List UInt8 := dkwX4_see_9 ++ []
def dkwX4_see_8 : List UInt8 := [167, 0, 45, 42, 28, 42, 180, 0, 86, 162, 0, 7, 28, 167, 0, 7, 42, 180, 0, 86, 181, 0, 86, 42]
abbrev dktX4_see_8 : List UInt8 := dkwX4_see_8 ++ dktX4_see_9
def dkwX4_see_7 : List UInt8 := [162, 0, 23, 42, 180, 0, 45, 21, 4, 42, 180, 0, 42, 21, 4, 46, 79, 132, 4, 1, 167, 255, 233]
abbrev dktX4_see_7 : List UInt8 := dkwX4_see_7 ++ dktX4_see_8
def dkwX4_see_6 : List UInt8 := [180, 0, 80, 181, 0, 86, 42, 28, 181, 0, 80, 42, 4, 181, 0, 83, 3, 54, 4, 21, 4, 27]
abbrev dktX4_see_6 : List UInt8 := dkwX4_see_6 ++ dktX4_see_7
def dkwX4_see_5 : List UInt8 := [164, 0, 7, 28, 167, 0, 7, 42, 180, 0, 89, 181, 0, 89, 28, 42, 180, 0, 80, 162, 0, 53, 42, 42]
abbrev dktX4_see_5 : List UInt8 := dkwX4_see_5 ++ dktX4_see_6
def dkwX4_see_4 : List UInt8 := [167, 0, 7, 42, 180, 0, 92, 181, 0, 92, 42, 28, 17, 3, 232, 162, 0, 15, 28, 42, 180, 0, 89]
abbrev dktX4_see_4 : List UInt8 := dkwX4_see_4 ++ dktX4_see_5
def dkwX4_see_3 : List UInt8 := [46, 167, 0, 4, 29, 62, 132, 4, 1, 167, 255, 180, 42, 29, 42, 180, 0, 92, 162, 0, 7, 29]
abbrev dktX4_see_3 : List UInt8 := dkwX4_see_3 ++ dktX4_see_4
def dkwX4_see_2 : List UInt8 := [180, 0, 39, 21, 5, 46, 79, 42, 180, 0, 36, 21, 5, 46, 29, 164, 0, 13, 42, 180, 0, 36, 21, 5]
abbrev dktX4_see_2 : List UInt8 := dkwX4_see_2 ++ dktX4_see_3
def dkwX4_see_1 : List UInt8 := [54, 5, 42, 180, 0, 39, 21, 5, 28, 42, 180, 0, 39, 21, 5, 46, 162, 0, 7, 28, 167, 0, 10, 42]
abbrev dktX4_see_1 : List UInt8 := dkwX4_see_1 ++ dktX4_see_2
def dkwX4_see_0 : List UInt8 := [3, 62, 3, 54, 4, 21, 4, 27, 162, 0, 76, 16, 7, 21, 4, 104, 42, 180, 0, 42, 21, 4, 46, 96]
abbrev dktX4_see_0 : List UInt8 := dkwX4_see_0 ++ dktX4_see_1
theorem dksX4_see_0 : cX4_see.data.toList.drop 0 = dktX4_see_0 := by decide +kernel
theorem dksX4_see_1 : cX4_see.data.toList.drop 24 = dktX4_see_1 := dk_seg dksX4_see_0 24 rfl rfl
theorem dksX4_see_2 : cX4_see.data.toList.drop 48 = dktX4_see_2 := dk_seg dksX4_see_1 24 rfl rfl
theorem dksX4_see_3 : cX4_see.data.toList.drop 72 = dktX4_see_3 := dk_seg dksX4_see_2 24 rfl rfl
theorem dksX4_see_4 : cX4_see.data.toList.drop 94 = dktX4_see_4 := dk_seg dksX4_see_3 22 rfl rfl
theorem dksX4_see_5 : cX4_see.data.toList.drop 117 = dktX4_see_5 := dk_seg dksX4_see_4 23 rfl rfl
theorem dksX4_see_6 : cX4_see.data.toList.drop 141 = dktX4_see_6 := dk_seg dksX4_see_5 24 rfl rfl
theorem dksX4_see_7 : cX4_see.data.toList.drop 163 = dktX4_see_7 := dk_seg dksX4_see_6 22 rfl rfl
theorem dksX4_see_8 : cX4_see.data.toList.drop 186 = dktX4_see_8 := dk_seg dksX4_see_7 23 rfl rfl
theorem dksX4_see_9 : cX4_see.data.toList.drop 210 = dktX4_see_9 := dk_seg dksX4_see_8 24 rfl rfl
theorem dX4_see_0 : decode cX4_see 0 = .ok (.iconst 0, 1) := dk_3 (dk_at dksX4_see_0 0 rfl rfl)
theorem dX4_see_1 : decode cX4_see 1 = .ok (.istore_n 3, 1) := dk_62 (dk_at dksX4_see_0 1 rfl rfl)
theorem dX4_see_2 : decode cX4_see 2 = .ok (.iconst 0, 1) := dk_3 (dk_at dksX4_see_0 2 rfl rfl)
theorem dX4_see_3 : decode cX4_see 3 = .ok (.istore 4, 2) := dk_54 4 (dk_at dksX4_see_0 3 rfl rfl)
theorem dX4_see_5 : decode cX4_see 5 = .ok (.iload 4, 2) := dk_21 4 (dk_at dksX4_see_0 5 rfl rfl)
theorem dX4_see_7 : decode cX4_see 7 = .ok (.iload_n 1, 1) := dk_27 (dk_at dksX4_see_0 7 rfl rfl)
theorem dX4_see_8 : decode cX4_see 8 = .ok (.if_icmp .ge 76, 3) := dk_162 0 76 (dk_at dksX4_see_0 8 rfl rfl)
theorem dX4_see_11 : decode cX4_see 11 = .ok (.bipush 7, 2) := dk_16 7 (dk_at dksX4_see_0 11 rfl rfl)
theorem dX4_see_13 : decode cX4_see 13 = .ok (.iload 4, 2) := dk_21 4 (dk_at dksX4_see_0 13 rfl rfl)
theorem dX4_see_15 : decode cX4_see 15 = .ok (.imul, 1) := dk_104 (dk_at dksX4_see_0 15 rfl rfl)
theorem dX4_see_16 : decode cX4_see 16 = .ok (.aload_n 0, 1) := dk_42 (dk_at dksX4_see_0 16 rfl rfl)
theorem dX4_see_17 : decode cX4_see 17 = .ok (.getfield 42, 3) := dk_180 0 42 (dk_at dksX4_see_0 17 rfl rfl)
theorem dX4_see_20 : decode cX4_see 20 = .ok (.iload 4, 2) := dk_21 4 (dk_at dksX4_see_0 20 rfl rfl)
theorem dX4_see_22 : decode cX4_see 22 = .ok (.iaload, 1) := dk_46 (dk_at dksX4_see_0 22 rfl rfl)
theorem dX4_see_23 : decode cX4_see 23 = .ok (.iadd, 1) := dk_96 (dk_at dksX4_see_0 23 rfl rfl)
theorem dX4_see_24 : decode cX4_see 24 = .ok (.istore 5, 2) := dk_54 5 (dk_at dksX4_see_1 0 rfl rfl)
theorem dX4_see_26 : decode cX4_see 26 = .ok (.aload_n 0, 1) := dk_42 (dk_at dksX4_see_1 2 rfl rfl)
theorem dX4_see_27 : decode cX4_see 27 = .ok (.getfield 39, 3) := dk_180 0 39 (dk_at dksX4_see_1 3 rfl rfl)
theorem dX4_see_30 : decode cX4_see 30 = .ok (.iload 5, 2) := dk_21 5 (dk_at dksX4_see_1 6 rfl rfl)
theorem dX4_see_32 : decode cX4_see 32 = .ok (.iload_n 2, 1) := dk_28 (dk_at dksX4_see_1 8 rfl rfl)
theorem dX4_see_33 : decode cX4_see 33 = .ok (.aload_n 0, 1) := dk_42 (dk_at dksX4_see_1 9 rfl rfl)
theorem dX4_see_34 : decode cX4_see 34 = .ok (.getfield 39, 3) := dk_180 0 39 (dk_at dksX4_see_1 10 rfl rfl)
theorem dX4_see_37 : decode cX4_see 37 = .ok (.iload 5, 2) := dk_21 5 (dk_at dksX4_see_1 13 rfl rfl)
theorem dX4_see_39 : decode cX4_see 39 = .ok (.iaload, 1) := dk_46 (dk_at dksX4_see_1 15 rfl rfl)
theorem dX4_see_40 : decode cX4_see 40 = .ok (.if_icmp .ge 7, 3) := dk_162 0 7 (dk_at dksX4_see_1 16 rfl rfl)
theorem dX4_see_43 : decode cX4_see 43 = .ok (.iload_n 2, 1) := dk_28 (dk_at dksX4_see_1 19 rfl rfl)
theorem dX4_see_44 : decode cX4_see 44 = .ok (.goto 10, 3) := dk_167 0 10 (dk_at dksX4_see_1 20 rfl rfl)
theorem dX4_see_47 : decode cX4_see 47 = .ok (.aload_n 0, 1) := dk_42 (dk_at dksX4_see_1 23 rfl rfl)
theorem dX4_see_48 : decode cX4_see 48 = .ok (.getfield 39, 3) := dk_180 0 39 (dk_at dksX4_see_2 0 rfl rfl)
theorem dX4_see_51 : decode cX4_see 51 = .ok (.iload 5, 2) := dk_21 5 (dk_at dksX4_see_2 3 rfl rfl)
theorem dX4_see_53 : decode cX4_see 53 = .ok (.iaload, 1) := dk_46 (dk_at dksX4_see_2 5 rfl rfl)
theorem dX4_see_54 : decode cX4_see 54 = .ok (.iastore, 1) := dk_79 (dk_at dksX4_see_2 6 rfl rfl)
theorem dX4_see_55 : decode cX4_see 55 = .ok (.aload_n 0, 1) := dk_42 (dk_at dksX4_see_2 7 rfl rfl)
theorem dX4_see_56 : decode cX4_see 56 = .ok (.getfield 36, 3) := dk_180 0 36 (dk_at dksX4_see_2 8 rfl rfl)
theorem dX4_see_59 : decode cX4_see 59 = .ok (.iload 5, 2) := dk_21 5 (dk_at dksX4_see_2 11 rfl rfl)
theorem dX4_see_61 : decode cX4_see 61 = .ok (.iaload, 1) := dk_46 (dk_at dksX4_see_2 13 rfl rfl)
theorem dX4_see_62 : decode cX4_see 62 = .ok (.iload_n 3, 1) := dk_29 (dk_at dksX4_see_2 14 rfl rfl)
theorem dX4_see_63 : decode cX4_see 63 = .ok (.if_icmp .le 13, 3) := dk_164 0 13 (dk_at dksX4_see_2 15 rfl rfl)
theorem dX4_see_66 : decode cX4_see 66 = .ok (.aload_n 0, 1) := dk_42 (dk_at dksX4_see_2 18 rfl rfl)
theorem dX4_see_67 : decode cX4_see 67 = .ok (.getfield 36, 3) := dk_180 0 36 (dk_at dksX4_see_2 19 rfl rfl)
theorem dX4_see_70 : decode cX4_see 70 = .ok (.iload 5, 2) := dk_21 5 (dk_at dksX4_see_2 22 rfl rfl)
theorem dX4_see_72 : decode cX4_see 72 = .ok (.iaload, 1) := dk_46 (dk_at dksX4_see_3 0 rfl rfl)
theorem dX4_see_73 : decode cX4_see 73 = .ok (.goto 4, 3) := dk_167 0 4 (dk_at dksX4_see_3 1 rfl rfl)
theorem dX4_see_76 : decode cX4_see 76 = .ok (.iload_n 3, 1) := dk_29 (dk_at dksX4_see_3 4 rfl rfl)
theorem dX4_see_77 : decode cX4_see 77 = .ok (.istore_n 3, 1) := dk_62 (dk_at dksX4_see_3 5 rfl rfl)
theorem dX4_see_78 : decode cX4_see 78 = .ok (.iinc 4 1, 3) := dk_132 4 1 (dk_at dksX4_see_3 6 rfl rfl)
theorem dX4_see_81 : decode cX4_see 81 = .ok (.goto (-76), 3) := dk_167 255 180 (dk_at dksX4_see_3 9 rfl rfl)
theorem dX4_see_84 : decode cX4_see 84 = .ok (.aload_n 0, 1) := dk_42 (dk_at dksX4_see_3 12 rfl rfl)
theorem dX4_see_85 : decode cX4_see 85 = .ok (.iload_n 3, 1) := dk_29 (dk_at dksX4_see_3 13 rfl rfl)
theorem dX4_see_86 : decode cX4_see 86 = .ok (.aload_n 0, 1) := dk_42 (dk_at dksX4_see_3 14 rfl rfl)
theorem dX4_see_87 : decode cX4_see 87 = .ok (.getfield 92, 3) := dk_180 0 92 (dk_at dksX4_see_3 15 rfl rfl)
theorem dX4_see_90 : decode cX4_see 90 = .ok (.if_icmp .ge 7, 3) := dk_162 0 7 (dk_at dksX4_see_3 18 rfl rfl)
theorem dX4_see_93 : decode cX4_see 93 = .ok (.iload_n 3, 1) := dk_29 (dk_at dksX4_see_3 21 rfl rfl)
theorem dX4_see_94 : decode cX4_see 94 = .ok (.goto 7, 3) := dk_167 0 7 (dk_at dksX4_see_4 0 rfl rfl)
theorem dX4_see_97 : decode cX4_see 97 = .ok (.aload_n 0, 1) := dk_42 (dk_at dksX4_see_4 3 rfl rfl)
theorem dX4_see_98 : decode cX4_see 98 = .ok (.getfield 92, 3) := dk_180 0 92 (dk_at dksX4_see_4 4 rfl rfl)
theorem dX4_see_101 : decode cX4_see 101 = .ok (.putfield 92, 3) := dk_181 0 92 (dk_at dksX4_see_4 7 rfl rfl)
theorem dX4_see_104 : decode cX4_see 104 = .ok (.aload_n 0, 1) := dk_42 (dk_at dksX4_see_4 10 rfl rfl)
theorem dX4_see_105 : decode cX4_see 105 = .ok (.iload_n 2, 1) := dk_28 (dk_at dksX4_see_4 11 rfl rfl)
theorem dX4_see_106 : decode cX4_see 106 = .ok (.sipush 1000, 3) := dk_17 3 232 (dk_at dksX4_see_4 12 rfl rfl)
theorem dX4_see_109 : decode cX4_see 109 = .ok (.if_icmp .ge 15, 3) := dk_162 0 15 (dk_at dksX4_see_4 15 rfl rfl)
theorem dX4_see_112 : decode cX4_see 112 = .ok (.iload_n 2, 1) := dk_28 (dk_at dksX4_see_4 18 rfl rfl)
theorem dX4_see_113 : decode cX4_see 113 = .ok (.aload_n 0, 1) := dk_42 (dk_at dksX4_see_4 19 rfl rfl)
theorem dX4_see_114 : decode cX4_see 114 = .ok (.getfield 89, 3) := dk_180 0 89 (dk_at dksX4_see_4 20 rfl rfl)
theorem dX4_see_117 : decode cX4_see 117 = .ok (.if_icmp .le 7, 3) := dk_164 0 7 (dk_at dksX4_see_5 0 rfl rfl)
theorem dX4_see_120 : decode cX4_see 120 = .ok (.iload_n 2, 1) := dk_28 (dk_at dksX4_see_5 3 rfl rfl)
theorem dX4_see_121 : decode cX4_see 121 = .ok (.goto 7, 3) := dk_167 0 7 (dk_at dksX4_see_5 4 rfl rfl)
theorem dX4_see_124 : decode cX4_see 124 = .ok (.aload_n 0, 1) := dk_42 (dk_at dksX4_see_5 7 rfl rfl)
theorem dX4_see_125 : decode cX4_see 125 = .ok (.getfield 89, 3) := dk_180 0 89 (dk_at dksX4_see_5 8 rfl rfl)
theorem dX4_see_128 : decode cX4_see 128 = .ok (.putfield 89, 3) := dk_181 0 89 (dk_at dksX4_see_5 11 rfl rfl)
theorem dX4_see_131 : decode cX4_see 131 = .ok (.iload_n 2, 1) := dk_28 (dk_at dksX4_see_5 14 rfl rfl)
theorem dX4_see_132 : decode cX4_see 132 = .ok (.aload_n 0, 1) := dk_42 (dk_at dksX4_see_5 15 rfl rfl)
theorem dX4_see_133 : decode cX4_see 133 = .ok (.getfield 80, 3) := dk_180 0 80 (dk_at dksX4_see_5 16 rfl rfl)
theorem dX4_see_136 : decode cX4_see 136 = .ok (.if_icmp .ge 53, 3) := dk_162 0 53 (dk_at dksX4_see_5 19 rfl rfl)
theorem dX4_see_139 : decode cX4_see 139 = .ok (.aload_n 0, 1) := dk_42 (dk_at dksX4_see_5 22 rfl rfl)
theorem dX4_see_140 : decode cX4_see 140 = .ok (.aload_n 0, 1) := dk_42 (dk_at dksX4_see_5 23 rfl rfl)
theorem dX4_see_141 : decode cX4_see 141 = .ok (.getfield 80, 3) := dk_180 0 80 (dk_at dksX4_see_6 0 rfl rfl)
theorem dX4_see_144 : decode cX4_see 144 = .ok (.putfield 86, 3) := dk_181 0 86 (dk_at dksX4_see_6 3 rfl rfl)
theorem dX4_see_147 : decode cX4_see 147 = .ok (.aload_n 0, 1) := dk_42 (dk_at dksX4_see_6 6 rfl rfl)
theorem dX4_see_148 : decode cX4_see 148 = .ok (.iload_n 2, 1) := dk_28 (dk_at dksX4_see_6 7 rfl rfl)
theorem dX4_see_149 : decode cX4_see 149 = .ok (.putfield 80, 3) := dk_181 0 80 (dk_at dksX4_see_6 8 rfl rfl)
theorem dX4_see_152 : decode cX4_see 152 = .ok (.aload_n 0, 1) := dk_42 (dk_at dksX4_see_6 11 rfl rfl)
theorem dX4_see_153 : decode cX4_see 153 = .ok (.iconst 1, 1) := dk_4 (dk_at dksX4_see_6 12 rfl rfl)
theorem dX4_see_154 : decode cX4_see 154 = .ok (.putfield 83, 3) := dk_181 0 83 (dk_at dksX4_see_6 13 rfl rfl)
theorem dX4_see_157 : decode cX4_see 157 = .ok (.iconst 0, 1) := dk_3 (dk_at dksX4_see_6 16 rfl rfl)
theorem dX4_see_158 : decode cX4_see 158 = .ok (.istore 4, 2) := dk_54 4 (dk_at dksX4_see_6 17 rfl rfl)
theorem dX4_see_160 : decode cX4_see 160 = .ok (.iload 4, 2) := dk_21 4 (dk_at dksX4_see_6 19 rfl rfl)
theorem dX4_see_162 : decode cX4_see 162 = .ok (.iload_n 1, 1) := dk_27 (dk_at dksX4_see_6 21 rfl rfl)
theorem dX4_see_163 : decode cX4_see 163 = .ok (.if_icmp .ge 23, 3) := dk_162 0 23 (dk_at dksX4_see_7 0 rfl rfl)
theorem dX4_see_166 : decode cX4_see 166 = .ok (.aload_n 0, 1) := dk_42 (dk_at dksX4_see_7 3 rfl rfl)
theorem dX4_see_167 : decode cX4_see 167 = .ok (.getfield 45, 3) := dk_180 0 45 (dk_at dksX4_see_7 4 rfl rfl)
theorem dX4_see_170 : decode cX4_see 170 = .ok (.iload 4, 2) := dk_21 4 (dk_at dksX4_see_7 7 rfl rfl)
theorem dX4_see_172 : decode cX4_see 172 = .ok (.aload_n 0, 1) := dk_42 (dk_at dksX4_see_7 9 rfl rfl)
theorem dX4_see_173 : decode cX4_see 173 = .ok (.getfield 42, 3) := dk_180 0 42 (dk_at dksX4_see_7 10 rfl rfl)
theorem dX4_see_176 : decode cX4_see 176 = .ok (.iload 4, 2) := dk_21 4 (dk_at dksX4_see_7 13 rfl rfl)
theorem dX4_see_178 : decode cX4_see 178 = .ok (.iaload, 1) := dk_46 (dk_at dksX4_see_7 15 rfl rfl)
theorem dX4_see_179 : decode cX4_see 179 = .ok (.iastore, 1) := dk_79 (dk_at dksX4_see_7 16 rfl rfl)
theorem dX4_see_180 : decode cX4_see 180 = .ok (.iinc 4 1, 3) := dk_132 4 1 (dk_at dksX4_see_7 17 rfl rfl)
theorem dX4_see_183 : decode cX4_see 183 = .ok (.goto (-23), 3) := dk_167 255 233 (dk_at dksX4_see_7 20 rfl rfl)
theorem dX4_see_186 : decode cX4_see 186 = .ok (.goto 45, 3) := dk_167 0 45 (dk_at dksX4_see_8 0 rfl rfl)
theorem dX4_see_189 : decode cX4_see 189 = .ok (.aload_n 0, 1) := dk_42 (dk_at dksX4_see_8 3 rfl rfl)
theorem dX4_see_190 : decode cX4_see 190 = .ok (.iload_n 2, 1) := dk_28 (dk_at dksX4_see_8 4 rfl rfl)
theorem dX4_see_191 : decode cX4_see 191 = .ok (.aload_n 0, 1) := dk_42 (dk_at dksX4_see_8 5 rfl rfl)
theorem dX4_see_192 : decode cX4_see 192 = .ok (.getfield 86, 3) := dk_180 0 86 (dk_at dksX4_see_8 6 rfl rfl)
theorem dX4_see_195 : decode cX4_see 195 = .ok (.if_icmp .ge 7, 3) := dk_162 0 7 (dk_at dksX4_see_8 9 rfl rfl)
theorem dX4_see_198 : decode cX4_see 198 = .ok (.iload_n 2, 1) := dk_28 (dk_at dksX4_see_8 12 rfl rfl)
theorem dX4_see_199 : decode cX4_see 199 = .ok (.goto 7, 3) := dk_167 0 7 (dk_at dksX4_see_8 13 rfl rfl)
theorem dX4_see_202 : decode cX4_see 202 = .ok (.aload_n 0, 1) := dk_42 (dk_at dksX4_see_8 16 rfl rfl)
theorem dX4_see_203 : decode cX4_see 203 = .ok (.getfield 86, 3) := dk_180 0 86 (dk_at dksX4_see_8 17 rfl rfl)
theorem dX4_see_206 : decode cX4_see 206 = .ok (.putfield 86, 3) := dk_181 0 86 (dk_at dksX4_see_8 20 rfl rfl)
theorem dX4_see_209 : decode cX4_see 209 = .ok (.aload_n 0, 1) := dk_42 (dk_at dksX4_see_8 23 rfl rfl)
theorem dX4_see_210 : decode cX4_see 210 = .ok (.dup, 1) := dk_89 (dk_at dksX4_see_9 0 rfl rfl)
theorem dX4_see_211 : decode cX4_see 211 = .ok (.getfield 83, 3) := dk_180 0 83 (dk_at dksX4_see_9 1 rfl rfl)
theorem dX4_see_214 : decode cX4_see 214 = .ok (.iload_n 2, 1) := dk_28 (dk_at dksX4_see_9 4 rfl rfl)
theorem dX4_see_215 : decode cX4_see 215 = .ok (.aload_n 0, 1) := dk_42 (dk_at dksX4_see_9 5 rfl rfl)
theorem dX4_see_216 : decode cX4_see 216 = .ok (.getfield 80, 3) := dk_180 0 80 (dk_at dksX4_see_9 6 rfl rfl)
theorem dX4_see_219 : decode cX4_see 219 = .ok (.if_icmp .ne 7, 3) := dk_160 0 7 (dk_at dksX4_see_9 9 rfl rfl)
theorem dX4_see_222 : decode cX4_see 222 = .ok (.iconst 1, 1) := dk_4 (dk_at dksX4_see_9 12 rfl rfl)
theorem dX4_see_223 : decode cX4_see 223 = .ok (.goto 4, 3) := dk_167 0 4 (dk_at dksX4_see_9 13 rfl rfl)
theorem dX4_see_226 : decode cX4_see 226 = .ok (.iconst 0, 1) := dk_3 (dk_at dksX4_see_9 16 rfl rfl)
theorem dX4_see_227 : decode cX4_see 227 = .ok (.iadd, 1) := dk_96 (dk_at dksX4_see_9 17 rfl rfl)
theorem dX4_see_228 : decode cX4_see 228 = .ok (.putfield 83, 3) := dk_181 0 83 (dk_at dksX4_see_9 18 rfl rfl)
theorem dX4_see_231 : decode cX4_see 231 = .ok (.return_, 1) := dk_177 (dk_at dksX4_see_9 21 rfl rfl)
abbrev cX4_goOn : ByteArray := prog_7_method_11_code
def yX4_goOn : MethodName := ⟨RX4, "goOn", "(I)V"⟩
def dkwX4_goOn_4 : List UInt8 := [132, 4, 1, 132, 5, 255, 167, 255, 235, 177]
abbrev dktX4_goOn_4 : List UInt8 := dkwX4_goOn_4 ++ []
def dkwX4_goOn_3 : List UInt8 := [54, 4, 27, 4, 100, 54, 5, 21, 4, 21, 5, 162, 0, 20, 42, 21, 4, 21, 5, 182, 0, 71]
abbrev dktX4_goOn_3 : List UInt8 := dkwX4_goOn_3 ++ dktX4_goOn_4
def dkwX4_goOn_2 : List UInt8 := [42, 180, 0, 42, 28, 46, 162, 0, 9, 132, 3, 255, 167, 255, 238, 42, 28, 29, 182, 0, 71, 28, 4, 96]
abbrev dktX4_goOn_2 : List UInt8 := dkwX4_goOn_2 ++ dktX4_goOn_3
def dkwX4_goOn_1 : List UInt8 := [164, 0, 9, 132, 2, 255, 167, 255, 232, 28, 156, 0, 4, 177, 27, 4, 100, 62, 42, 180, 0, 42, 29, 46]
abbrev dktX4_goOn_1 : List UInt8 := dkwX4_goOn_1 ++ dktX4_goOn_2
def dkwX4_goOn_0 : List UInt8 := [27, 5, 100, 61, 28, 155, 0, 26, 42, 180, 0, 42, 28, 46, 42, 180, 0, 42, 28, 4, 96, 46]
abbrev dktX4_goOn_0 : List UInt8 := dkwX4_goOn_0 ++ dktX4_goOn_1
theorem dksX4_goOn_0 : cX4_goOn.data.toList.drop 0 = dktX4_goOn_0 := by decide +kernel
theorem dksX4_goOn_1 : cX4_goOn.data.toList.drop 22 = dktX4_goOn_1 := dk_seg dksX4_goOn_0 22 rfl rfl
theorem dksX4_goOn_2 : cX4_goOn.data.toList.drop 46 = dktX4_goOn_2 := dk_seg dksX4_goOn_1 24 rfl rfl
theorem dksX4_goOn_3 : cX4_goOn.data.toList.drop 70 = dktX4_goOn_3 := dk_seg dksX4_goOn_2 24 rfl rfl
theorem dksX4_goOn_4 : cX4_goOn.data.toList.drop 92 = dktX4_goOn_4 := dk_seg dksX4_goOn_3 22 rfl rfl
theorem dX4_goOn_0 : decode cX4_goOn 0 = .ok (.iload_n 1, 1) := dk_27 (dk_at dksX4_goOn_0 0 rfl rfl)
theorem dX4_goOn_1 : decode cX4_goOn 1 = .ok (.iconst 2, 1) := dk_5 (dk_at dksX4_goOn_0 1 rfl rfl)
theorem dX4_goOn_2 : decode cX4_goOn 2 = .ok (.isub, 1) := dk_100 (dk_at dksX4_goOn_0 2 rfl rfl)
theorem dX4_goOn_3 : decode cX4_goOn 3 = .ok (.istore_n 2, 1) := dk_61 (dk_at dksX4_goOn_0 3 rfl rfl)
theorem dX4_goOn_4 : decode cX4_goOn 4 = .ok (.iload_n 2, 1) := dk_28 (dk_at dksX4_goOn_0 4 rfl rfl)
theorem dX4_goOn_5 : decode cX4_goOn 5 = .ok (.ifCond .lt 26, 3) := dk_155 0 26 (dk_at dksX4_goOn_0 5 rfl rfl)
theorem dX4_goOn_8 : decode cX4_goOn 8 = .ok (.aload_n 0, 1) := dk_42 (dk_at dksX4_goOn_0 8 rfl rfl)
theorem dX4_goOn_9 : decode cX4_goOn 9 = .ok (.getfield 42, 3) := dk_180 0 42 (dk_at dksX4_goOn_0 9 rfl rfl)
theorem dX4_goOn_12 : decode cX4_goOn 12 = .ok (.iload_n 2, 1) := dk_28 (dk_at dksX4_goOn_0 12 rfl rfl)
theorem dX4_goOn_13 : decode cX4_goOn 13 = .ok (.iaload, 1) := dk_46 (dk_at dksX4_goOn_0 13 rfl rfl)
theorem dX4_goOn_14 : decode cX4_goOn 14 = .ok (.aload_n 0, 1) := dk_42 (dk_at dksX4_goOn_0 14 rfl rfl)
theorem dX4_goOn_15 : decode cX4_goOn 15 = .ok (.getfield 42, 3) := dk_180 0 42 (dk_at dksX4_goOn_0 15 rfl rfl)
theorem dX4_goOn_18 : decode cX4_goOn 18 = .ok (.iload_n 2, 1) := dk_28 (dk_at dksX4_goOn_0 18 rfl rfl)
theorem dX4_goOn_19 : decode cX4_goOn 19 = .ok (.iconst 1, 1) := dk_4 (dk_at dksX4_goOn_0 19 rfl rfl)
theorem dX4_goOn_20 : decode cX4_goOn 20 = .ok (.iadd, 1) := dk_96 (dk_at dksX4_goOn_0 20 rfl rfl)
theorem dX4_goOn_21 : decode cX4_goOn 21 = .ok (.iaload, 1) := dk_46 (dk_at dksX4_goOn_0 21 rfl rfl)
theorem dX4_goOn_22 : decode cX4_goOn 22 = .ok (.if_icmp .le 9, 3) := dk_164 0 9 (dk_at dksX4_goOn_1 0 rfl rfl)
theorem dX4_goOn_25 : decode cX4_goOn 25 = .ok (.iinc 2 (-1), 3) := dk_132 2 255 (dk_at dksX4_goOn_1 3 rfl rfl)
theorem dX4_goOn_28 : decode cX4_goOn 28 = .ok (.goto (-24), 3) := dk_167 255 232 (dk_at dksX4_goOn_1 6 rfl rfl)
theorem dX4_goOn_31 : decode cX4_goOn 31 = .ok (.iload_n 2, 1) := dk_28 (dk_at dksX4_goOn_1 9 rfl rfl)
theorem dX4_goOn_32 : decode cX4_goOn 32 = .ok (.ifCond .ge 4, 3) := dk_156 0 4 (dk_at dksX4_goOn_1 10 rfl rfl)
theorem dX4_goOn_35 : decode cX4_goOn 35 = .ok (.return_, 1) := dk_177 (dk_at dksX4_goOn_1 13 rfl rfl)
theorem dX4_goOn_36 : decode cX4_goOn 36 = .ok (.iload_n 1, 1) := dk_27 (dk_at dksX4_goOn_1 14 rfl rfl)
theorem dX4_goOn_37 : decode cX4_goOn 37 = .ok (.iconst 1, 1) := dk_4 (dk_at dksX4_goOn_1 15 rfl rfl)
theorem dX4_goOn_38 : decode cX4_goOn 38 = .ok (.isub, 1) := dk_100 (dk_at dksX4_goOn_1 16 rfl rfl)
theorem dX4_goOn_39 : decode cX4_goOn 39 = .ok (.istore_n 3, 1) := dk_62 (dk_at dksX4_goOn_1 17 rfl rfl)
theorem dX4_goOn_40 : decode cX4_goOn 40 = .ok (.aload_n 0, 1) := dk_42 (dk_at dksX4_goOn_1 18 rfl rfl)
theorem dX4_goOn_41 : decode cX4_goOn 41 = .ok (.getfield 42, 3) := dk_180 0 42 (dk_at dksX4_goOn_1 19 rfl rfl)
theorem dX4_goOn_44 : decode cX4_goOn 44 = .ok (.iload_n 3, 1) := dk_29 (dk_at dksX4_goOn_1 22 rfl rfl)
theorem dX4_goOn_45 : decode cX4_goOn 45 = .ok (.iaload, 1) := dk_46 (dk_at dksX4_goOn_1 23 rfl rfl)
theorem dX4_goOn_46 : decode cX4_goOn 46 = .ok (.aload_n 0, 1) := dk_42 (dk_at dksX4_goOn_2 0 rfl rfl)
theorem dX4_goOn_47 : decode cX4_goOn 47 = .ok (.getfield 42, 3) := dk_180 0 42 (dk_at dksX4_goOn_2 1 rfl rfl)
theorem dX4_goOn_50 : decode cX4_goOn 50 = .ok (.iload_n 2, 1) := dk_28 (dk_at dksX4_goOn_2 4 rfl rfl)
theorem dX4_goOn_51 : decode cX4_goOn 51 = .ok (.iaload, 1) := dk_46 (dk_at dksX4_goOn_2 5 rfl rfl)
theorem dX4_goOn_52 : decode cX4_goOn 52 = .ok (.if_icmp .ge 9, 3) := dk_162 0 9 (dk_at dksX4_goOn_2 6 rfl rfl)
theorem dX4_goOn_55 : decode cX4_goOn 55 = .ok (.iinc 3 (-1), 3) := dk_132 3 255 (dk_at dksX4_goOn_2 9 rfl rfl)
theorem dX4_goOn_58 : decode cX4_goOn 58 = .ok (.goto (-18), 3) := dk_167 255 238 (dk_at dksX4_goOn_2 12 rfl rfl)
theorem dX4_goOn_61 : decode cX4_goOn 61 = .ok (.aload_n 0, 1) := dk_42 (dk_at dksX4_goOn_2 15 rfl rfl)
theorem dX4_goOn_62 : decode cX4_goOn 62 = .ok (.iload_n 2, 1) := dk_28 (dk_at dksX4_goOn_2 16 rfl rfl)
theorem dX4_goOn_63 : decode cX4_goOn 63 = .ok (.iload_n 3, 1) := dk_29 (dk_at dksX4_goOn_2 17 rfl rfl)
theorem dX4_goOn_64 : decode cX4_goOn 64 = .ok (.invokevirtual 71, 3) := dk_182 0 71 (dk_at dksX4_goOn_2 18 rfl rfl)
theorem dX4_goOn_67 : decode cX4_goOn 67 = .ok (.iload_n 2, 1) := dk_28 (dk_at dksX4_goOn_2 21 rfl rfl)
theorem dX4_goOn_68 : decode cX4_goOn 68 = .ok (.iconst 1, 1) := dk_4 (dk_at dksX4_goOn_2 22 rfl rfl)
theorem dX4_goOn_69 : decode cX4_goOn 69 = .ok (.iadd, 1) := dk_96 (dk_at dksX4_goOn_2 23 rfl rfl)
theorem dX4_goOn_70 : decode cX4_goOn 70 = .ok (.istore 4, 2) := dk_54 4 (dk_at dksX4_goOn_3 0 rfl rfl)
theorem dX4_goOn_72 : decode cX4_goOn 72 = .ok (.iload_n 1, 1) := dk_27 (dk_at dksX4_goOn_3 2 rfl rfl)
theorem dX4_goOn_73 : decode cX4_goOn 73 = .ok (.iconst 1, 1) := dk_4 (dk_at dksX4_goOn_3 3 rfl rfl)
theorem dX4_goOn_74 : decode cX4_goOn 74 = .ok (.isub, 1) := dk_100 (dk_at dksX4_goOn_3 4 rfl rfl)
theorem dX4_goOn_75 : decode cX4_goOn 75 = .ok (.istore 5, 2) := dk_54 5 (dk_at dksX4_goOn_3 5 rfl rfl)
theorem dX4_goOn_77 : decode cX4_goOn 77 = .ok (.iload 4, 2) := dk_21 4 (dk_at dksX4_goOn_3 7 rfl rfl)
theorem dX4_goOn_79 : decode cX4_goOn 79 = .ok (.iload 5, 2) := dk_21 5 (dk_at dksX4_goOn_3 9 rfl rfl)
theorem dX4_goOn_81 : decode cX4_goOn 81 = .ok (.if_icmp .ge 20, 3) := dk_162 0 20 (dk_at dksX4_goOn_3 11 rfl rfl)
theorem dX4_goOn_84 : decode cX4_goOn 84 = .ok (.aload_n 0, 1) := dk_42 (dk_at dksX4_goOn_3 14 rfl rfl)
theorem dX4_goOn_85 : decode cX4_goOn 85 = .ok (.iload 4, 2) := dk_21 4 (dk_at dksX4_goOn_3 15 rfl rfl)
theorem dX4_goOn_87 : decode cX4_goOn 87 = .ok (.iload 5, 2) := dk_21 5 (dk_at dksX4_goOn_3 17 rfl rfl)
theorem dX4_goOn_89 : decode cX4_goOn 89 = .ok (.invokevirtual 71, 3) := dk_182 0 71 (dk_at dksX4_goOn_3 19 rfl rfl)
theorem dX4_goOn_92 : decode cX4_goOn 92 = .ok (.iinc 4 1, 3) := dk_132 4 1 (dk_at dksX4_goOn_4 0 rfl rfl)
theorem dX4_goOn_95 : decode cX4_goOn 95 = .ok (.iinc 5 (-1), 3) := dk_132 5 255 (dk_at dksX4_goOn_4 3 rfl rfl)
theorem dX4_goOn_98 : decode cX4_goOn 98 = .ok (.goto (-21), 3) := dk_167 255 235 (dk_at dksX4_goOn_4 6 rfl rfl)
theorem dX4_goOn_101 : decode cX4_goOn 101 = .ok (.return_, 1) := dk_177 (dk_at dksX4_goOn_4 9 rfl rfl)
abbrev cX4_exchange : ByteArray := prog_7_method_12_code
def yX4_exchange : MethodName := ⟨RX4, "exchange", "(II)V"⟩
def dkwX4_exchange_1 : List UInt8 := [29, 79, 177]
abbrev dktX4_exchange_1 : List UInt8 := dkwX4_exchange_1 ++ []
def dkwX4_exchange_0 : List UInt8 := [42, 180, 0, 42, 27, 46, 62, 42, 180, 0, 42, 27, 42, 180, 0, 42, 28, 46, 79, 42, 180, 0, 42, 28]
abbrev dktX4_exchange_0 : List UInt8 := dkwX4_exchange_0 ++ dktX4_exchange_1
theorem dksX4_exchange_0 : cX4_exchange.data.toList.drop 0 = dktX4_exchange_0 := by decide +kernel
theorem dksX4_exchange_1 : cX4_exchange.data.toList.drop 24 = dktX4_exchange_1 := dk_seg dksX4_exchange_0 24 rfl rfl
theorem dX4_exchange_0 : decode cX4_exchange 0 = .ok (.aload_n 0, 1) := dk_42 (dk_at dksX4_exchange_0 0 rfl rfl)
theorem dX4_exchange_1 : decode cX4_exchange 1 = .ok (.getfield 42, 3) := dk_180 0 42 (dk_at dksX4_exchange_0 1 rfl rfl)
theorem dX4_exchange_4 : decode cX4_exchange 4 = .ok (.iload_n 1, 1) := dk_27 (dk_at dksX4_exchange_0 4 rfl rfl)
theorem dX4_exchange_5 : decode cX4_exchange 5 = .ok (.iaload, 1) := dk_46 (dk_at dksX4_exchange_0 5 rfl rfl)
theorem dX4_exchange_6 : decode cX4_exchange 6 = .ok (.istore_n 3, 1) := dk_62 (dk_at dksX4_exchange_0 6 rfl rfl)
theorem dX4_exchange_7 : decode cX4_exchange 7 = .ok (.aload_n 0, 1) := dk_42 (dk_at dksX4_exchange_0 7 rfl rfl)
theorem dX4_exchange_8 : decode cX4_exchange 8 = .ok (.getfield 42, 3) := dk_180 0 42 (dk_at dksX4_exchange_0 8 rfl rfl)
theorem dX4_exchange_11 : decode cX4_exchange 11 = .ok (.iload_n 1, 1) := dk_27 (dk_at dksX4_exchange_0 11 rfl rfl)
theorem dX4_exchange_12 : decode cX4_exchange 12 = .ok (.aload_n 0, 1) := dk_42 (dk_at dksX4_exchange_0 12 rfl rfl)
theorem dX4_exchange_13 : decode cX4_exchange 13 = .ok (.getfield 42, 3) := dk_180 0 42 (dk_at dksX4_exchange_0 13 rfl rfl)
theorem dX4_exchange_16 : decode cX4_exchange 16 = .ok (.iload_n 2, 1) := dk_28 (dk_at dksX4_exchange_0 16 rfl rfl)
theorem dX4_exchange_17 : decode cX4_exchange 17 = .ok (.iaload, 1) := dk_46 (dk_at dksX4_exchange_0 17 rfl rfl)
theorem dX4_exchange_18 : decode cX4_exchange 18 = .ok (.iastore, 1) := dk_79 (dk_at dksX4_exchange_0 18 rfl rfl)
theorem dX4_exchange_19 : decode cX4_exchange 19 = .ok (.aload_n 0, 1) := dk_42 (dk_at dksX4_exchange_0 19 rfl rfl)
theorem dX4_exchange_20 : decode cX4_exchange 20 = .ok (.getfield 42, 3) := dk_180 0 42 (dk_at dksX4_exchange_0 20 rfl rfl)
theorem dX4_exchange_23 : decode cX4_exchange 23 = .ok (.iload_n 2, 1) := dk_28 (dk_at dksX4_exchange_0 23 rfl rfl)
theorem dX4_exchange_24 : decode cX4_exchange 24 = .ok (.iload_n 3, 1) := dk_29 (dk_at dksX4_exchange_1 0 rfl rfl)
theorem dX4_exchange_25 : decode cX4_exchange 25 = .ok (.iastore, 1) := dk_79 (dk_at dksX4_exchange_1 1 rfl rfl)
theorem dX4_exchange_26 : decode cX4_exchange 26 = .ok (.return_, 1) := dk_177 (dk_at dksX4_exchange_1 2 rfl rfl)
abbrev cX4_savedMinimum : ByteArray := prog_7_method_46_code
def yX4_savedMinimum : MethodName := ⟨RX4, "savedMinimum", "()I"⟩
def dkwX4_savedMinimum_2 : List UInt8 := [167, 255, 212, 42, 42, 180, 0, 16, 182, 0, 111, 42, 180, 0, 80, 172]
abbrev dktX4_savedMinimum_2 : List UInt8 := dkwX4_savedMinimum_2 ++ []
def dkwX4_savedMinimum_1 : List UInt8 := [16, 7, 27, 104, 28, 96, 42, 27, 28, 182, 0, 156, 79, 132, 2, 1, 167, 255, 228, 132, 1, 1]
abbrev dktX4_savedMinimum_1 : List UInt8 := dkwX4_savedMinimum_1 ++ dktX4_savedMinimum_2
def dkwX4_savedMinimum_0 : List UInt8 := [3, 60, 27, 42, 180, 0, 16, 162, 0, 42, 3, 61, 28, 42, 180, 0, 16, 162, 0, 26, 42, 180, 0, 36]
abbrev dktX4_savedMinimum_0 : List UInt8 := dkwX4_savedMinimum_0 ++ dktX4_savedMinimum_1
theorem dksX4_savedMinimum_0 : cX4_savedMinimum.data.toList.drop 0 = dktX4_savedMinimum_0 := by decide +kernel
theorem dksX4_savedMinimum_1 : cX4_savedMinimum.data.toList.drop 24 = dktX4_savedMinimum_1 := dk_seg dksX4_savedMinimum_0 24 rfl rfl
theorem dksX4_savedMinimum_2 : cX4_savedMinimum.data.toList.drop 46 = dktX4_savedMinimum_2 := dk_seg dksX4_savedMinimum_1 22 rfl rfl
theorem dX4_savedMinimum_0 : decode cX4_savedMinimum 0 = .ok (.iconst 0, 1) := dk_3 (dk_at dksX4_savedMinimum_0 0 rfl rfl)
theorem dX4_savedMinimum_1 : decode cX4_savedMinimum 1 = .ok (.istore_n 1, 1) := dk_60 (dk_at dksX4_savedMinimum_0 1 rfl rfl)
theorem dX4_savedMinimum_2 : decode cX4_savedMinimum 2 = .ok (.iload_n 1, 1) := dk_27 (dk_at dksX4_savedMinimum_0 2 rfl rfl)
theorem dX4_savedMinimum_3 : decode cX4_savedMinimum 3 = .ok (.aload_n 0, 1) := dk_42 (dk_at dksX4_savedMinimum_0 3 rfl rfl)
theorem dX4_savedMinimum_4 : decode cX4_savedMinimum 4 = .ok (.getfield 16, 3) := dk_180 0 16 (dk_at dksX4_savedMinimum_0 4 rfl rfl)
theorem dX4_savedMinimum_7 : decode cX4_savedMinimum 7 = .ok (.if_icmp .ge 42, 3) := dk_162 0 42 (dk_at dksX4_savedMinimum_0 7 rfl rfl)
theorem dX4_savedMinimum_10 : decode cX4_savedMinimum 10 = .ok (.iconst 0, 1) := dk_3 (dk_at dksX4_savedMinimum_0 10 rfl rfl)
theorem dX4_savedMinimum_11 : decode cX4_savedMinimum 11 = .ok (.istore_n 2, 1) := dk_61 (dk_at dksX4_savedMinimum_0 11 rfl rfl)
theorem dX4_savedMinimum_12 : decode cX4_savedMinimum 12 = .ok (.iload_n 2, 1) := dk_28 (dk_at dksX4_savedMinimum_0 12 rfl rfl)
theorem dX4_savedMinimum_13 : decode cX4_savedMinimum 13 = .ok (.aload_n 0, 1) := dk_42 (dk_at dksX4_savedMinimum_0 13 rfl rfl)
theorem dX4_savedMinimum_14 : decode cX4_savedMinimum 14 = .ok (.getfield 16, 3) := dk_180 0 16 (dk_at dksX4_savedMinimum_0 14 rfl rfl)
theorem dX4_savedMinimum_17 : decode cX4_savedMinimum 17 = .ok (.if_icmp .ge 26, 3) := dk_162 0 26 (dk_at dksX4_savedMinimum_0 17 rfl rfl)
theorem dX4_savedMinimum_20 : decode cX4_savedMinimum 20 = .ok (.aload_n 0, 1) := dk_42 (dk_at dksX4_savedMinimum_0 20 rfl rfl)
theorem dX4_savedMinimum_21 : decode cX4_savedMinimum 21 = .ok (.getfield 36, 3) := dk_180 0 36 (dk_at dksX4_savedMinimum_0 21 rfl rfl)
theorem dX4_savedMinimum_24 : decode cX4_savedMinimum 24 = .ok (.bipush 7, 2) := dk_16 7 (dk_at dksX4_savedMinimum_1 0 rfl rfl)
theorem dX4_savedMinimum_26 : decode cX4_savedMinimum 26 = .ok (.iload_n 1, 1) := dk_27 (dk_at dksX4_savedMinimum_1 2 rfl rfl)
theorem dX4_savedMinimum_27 : decode cX4_savedMinimum 27 = .ok (.imul, 1) := dk_104 (dk_at dksX4_savedMinimum_1 3 rfl rfl)
theorem dX4_savedMinimum_28 : decode cX4_savedMinimum 28 = .ok (.iload_n 2, 1) := dk_28 (dk_at dksX4_savedMinimum_1 4 rfl rfl)
theorem dX4_savedMinimum_29 : decode cX4_savedMinimum 29 = .ok (.iadd, 1) := dk_96 (dk_at dksX4_savedMinimum_1 5 rfl rfl)
theorem dX4_savedMinimum_30 : decode cX4_savedMinimum 30 = .ok (.aload_n 0, 1) := dk_42 (dk_at dksX4_savedMinimum_1 6 rfl rfl)
theorem dX4_savedMinimum_31 : decode cX4_savedMinimum 31 = .ok (.iload_n 1, 1) := dk_27 (dk_at dksX4_savedMinimum_1 7 rfl rfl)
theorem dX4_savedMinimum_32 : decode cX4_savedMinimum 32 = .ok (.iload_n 2, 1) := dk_28 (dk_at dksX4_savedMinimum_1 8 rfl rfl)
theorem dX4_savedMinimum_33 : decode cX4_savedMinimum 33 = .ok (.invokevirtual 156, 3) := dk_182 0 156 (dk_at dksX4_savedMinimum_1 9 rfl rfl)
theorem dX4_savedMinimum_36 : decode cX4_savedMinimum 36 = .ok (.iastore, 1) := dk_79 (dk_at dksX4_savedMinimum_1 12 rfl rfl)
theorem dX4_savedMinimum_37 : decode cX4_savedMinimum 37 = .ok (.iinc 2 1, 3) := dk_132 2 1 (dk_at dksX4_savedMinimum_1 13 rfl rfl)
theorem dX4_savedMinimum_40 : decode cX4_savedMinimum 40 = .ok (.goto (-28), 3) := dk_167 255 228 (dk_at dksX4_savedMinimum_1 16 rfl rfl)
theorem dX4_savedMinimum_43 : decode cX4_savedMinimum 43 = .ok (.iinc 1 1, 3) := dk_132 1 1 (dk_at dksX4_savedMinimum_1 19 rfl rfl)
theorem dX4_savedMinimum_46 : decode cX4_savedMinimum 46 = .ok (.goto (-44), 3) := dk_167 255 212 (dk_at dksX4_savedMinimum_2 0 rfl rfl)
theorem dX4_savedMinimum_49 : decode cX4_savedMinimum 49 = .ok (.aload_n 0, 1) := dk_42 (dk_at dksX4_savedMinimum_2 3 rfl rfl)
theorem dX4_savedMinimum_50 : decode cX4_savedMinimum 50 = .ok (.aload_n 0, 1) := dk_42 (dk_at dksX4_savedMinimum_2 4 rfl rfl)
theorem dX4_savedMinimum_51 : decode cX4_savedMinimum 51 = .ok (.getfield 16, 3) := dk_180 0 16 (dk_at dksX4_savedMinimum_2 5 rfl rfl)
theorem dX4_savedMinimum_54 : decode cX4_savedMinimum 54 = .ok (.invokevirtual 111, 3) := dk_182 0 111 (dk_at dksX4_savedMinimum_2 8 rfl rfl)
theorem dX4_savedMinimum_57 : decode cX4_savedMinimum 57 = .ok (.aload_n 0, 1) := dk_42 (dk_at dksX4_savedMinimum_2 11 rfl rfl)
theorem dX4_savedMinimum_58 : decode cX4_savedMinimum 58 = .ok (.getfield 80, 3) := dk_180 0 80 (dk_at dksX4_savedMinimum_2 12 rfl rfl)
theorem dX4_savedMinimum_61 : decode cX4_savedMinimum 61 = .ok (.ireturn, 1) := dk_172 (dk_at dksX4_savedMinimum_2 15 rfl rfl)
abbrev cX4_assigned : ByteArray := prog_7_method_47_code
def yX4_assigned : MethodName := ⟨RX4, "assigned", "(I)I"⟩
def dkwX4_assigned_1 : List UInt8 := [182, 0, 114, 42, 180, 0, 45, 27, 46, 172]
abbrev dktX4_assigned_1 : List UInt8 := dkwX4_assigned_1 ++ []
def dkwX4_assigned_0 : List UInt8 := [42, 42, 27, 182, 0, 122, 153, 0, 7, 3, 167, 0, 4, 4, 182, 0, 118, 153, 0, 5, 3, 172, 42]
abbrev dktX4_assigned_0 : List UInt8 := dkwX4_assigned_0 ++ dktX4_assigned_1
theorem dksX4_assigned_0 : cX4_assigned.data.toList.drop 0 = dktX4_assigned_0 := by decide +kernel
theorem dksX4_assigned_1 : cX4_assigned.data.toList.drop 23 = dktX4_assigned_1 := dk_seg dksX4_assigned_0 23 rfl rfl
theorem dX4_assigned_0 : decode cX4_assigned 0 = .ok (.aload_n 0, 1) := dk_42 (dk_at dksX4_assigned_0 0 rfl rfl)
theorem dX4_assigned_1 : decode cX4_assigned 1 = .ok (.aload_n 0, 1) := dk_42 (dk_at dksX4_assigned_0 1 rfl rfl)
theorem dX4_assigned_2 : decode cX4_assigned 2 = .ok (.iload_n 1, 1) := dk_27 (dk_at dksX4_assigned_0 2 rfl rfl)
theorem dX4_assigned_3 : decode cX4_assigned 3 = .ok (.invokevirtual 122, 3) := dk_182 0 122 (dk_at dksX4_assigned_0 3 rfl rfl)
theorem dX4_assigned_6 : decode cX4_assigned 6 = .ok (.ifCond .eq 7, 3) := dk_153 0 7 (dk_at dksX4_assigned_0 6 rfl rfl)
theorem dX4_assigned_9 : decode cX4_assigned 9 = .ok (.iconst 0, 1) := dk_3 (dk_at dksX4_assigned_0 9 rfl rfl)
theorem dX4_assigned_10 : decode cX4_assigned 10 = .ok (.goto 4, 3) := dk_167 0 4 (dk_at dksX4_assigned_0 10 rfl rfl)
theorem dX4_assigned_13 : decode cX4_assigned 13 = .ok (.iconst 1, 1) := dk_4 (dk_at dksX4_assigned_0 13 rfl rfl)
theorem dX4_assigned_14 : decode cX4_assigned 14 = .ok (.invokevirtual 118, 3) := dk_182 0 118 (dk_at dksX4_assigned_0 14 rfl rfl)
theorem dX4_assigned_17 : decode cX4_assigned 17 = .ok (.ifCond .eq 5, 3) := dk_153 0 5 (dk_at dksX4_assigned_0 17 rfl rfl)
theorem dX4_assigned_20 : decode cX4_assigned 20 = .ok (.iconst 0, 1) := dk_3 (dk_at dksX4_assigned_0 20 rfl rfl)
theorem dX4_assigned_21 : decode cX4_assigned 21 = .ok (.ireturn, 1) := dk_172 (dk_at dksX4_assigned_0 21 rfl rfl)
theorem dX4_assigned_22 : decode cX4_assigned 22 = .ok (.aload_n 0, 1) := dk_42 (dk_at dksX4_assigned_0 22 rfl rfl)
theorem dX4_assigned_23 : decode cX4_assigned 23 = .ok (.invokevirtual 114, 3) := dk_182 0 114 (dk_at dksX4_assigned_1 0 rfl rfl)
theorem dX4_assigned_26 : decode cX4_assigned 26 = .ok (.aload_n 0, 1) := dk_42 (dk_at dksX4_assigned_1 3 rfl rfl)
theorem dX4_assigned_27 : decode cX4_assigned 27 = .ok (.getfield 45, 3) := dk_180 0 45 (dk_at dksX4_assigned_1 4 rfl rfl)
theorem dX4_assigned_30 : decode cX4_assigned 30 = .ok (.iload_n 1, 1) := dk_27 (dk_at dksX4_assigned_1 7 rfl rfl)
theorem dX4_assigned_31 : decode cX4_assigned 31 = .ok (.iaload, 1) := dk_46 (dk_at dksX4_assigned_1 8 rfl rfl)
theorem dX4_assigned_32 : decode cX4_assigned 32 = .ok (.ireturn, 1) := dk_172 (dk_at dksX4_assigned_1 9 rfl rfl)
abbrev cX4_optimalCount : ByteArray := prog_7_method_48_code
def yX4_optimalCount : MethodName := ⟨RX4, "optimalCount", "()I"⟩
def dkwX4_optimalCount_0 : List UInt8 := [42, 182, 0, 114, 42, 180, 0, 83, 172]
abbrev dktX4_optimalCount_0 : List UInt8 := dkwX4_optimalCount_0 ++ []
theorem dksX4_optimalCount_0 : cX4_optimalCount.data.toList.drop 0 = dktX4_optimalCount_0 := by decide +kernel
theorem dX4_optimalCount_0 : decode cX4_optimalCount 0 = .ok (.aload_n 0, 1) := dk_42 (dk_at dksX4_optimalCount_0 0 rfl rfl)
theorem dX4_optimalCount_1 : decode cX4_optimalCount 1 = .ok (.invokevirtual 114, 3) := dk_182 0 114 (dk_at dksX4_optimalCount_0 1 rfl rfl)
theorem dX4_optimalCount_4 : decode cX4_optimalCount 4 = .ok (.aload_n 0, 1) := dk_42 (dk_at dksX4_optimalCount_0 4 rfl rfl)
theorem dX4_optimalCount_5 : decode cX4_optimalCount 5 = .ok (.getfield 83, 3) := dk_180 0 83 (dk_at dksX4_optimalCount_0 5 rfl rfl)
theorem dX4_optimalCount_8 : decode cX4_optimalCount 8 = .ok (.ireturn, 1) := dk_172 (dk_at dksX4_optimalCount_0 8 rfl rfl)
abbrev cX4_rowPotential : ByteArray := prog_7_method_49_code
def yX4_rowPotential : MethodName := ⟨RX4, "rowPotential", "(I)I"⟩
def dkwX4_rowPotential_1 : List UInt8 := [182, 0, 159, 42, 180, 0, 54, 27, 46, 172]
abbrev dktX4_rowPotential_1 : List UInt8 := dkwX4_rowPotential_1 ++ []
def dkwX4_rowPotential_0 : List UInt8 := [42, 42, 27, 182, 0, 122, 153, 0, 7, 3, 167, 0, 4, 4, 182, 0, 118, 153, 0, 5, 3, 172, 42]
abbrev dktX4_rowPotential_0 : List UInt8 := dkwX4_rowPotential_0 ++ dktX4_rowPotential_1
theorem dksX4_rowPotential_0 : cX4_rowPotential.data.toList.drop 0 = dktX4_rowPotential_0 := by decide +kernel
theorem dksX4_rowPotential_1 : cX4_rowPotential.data.toList.drop 23 = dktX4_rowPotential_1 := dk_seg dksX4_rowPotential_0 23 rfl rfl
theorem dX4_rowPotential_0 : decode cX4_rowPotential 0 = .ok (.aload_n 0, 1) := dk_42 (dk_at dksX4_rowPotential_0 0 rfl rfl)
theorem dX4_rowPotential_1 : decode cX4_rowPotential 1 = .ok (.aload_n 0, 1) := dk_42 (dk_at dksX4_rowPotential_0 1 rfl rfl)
theorem dX4_rowPotential_2 : decode cX4_rowPotential 2 = .ok (.iload_n 1, 1) := dk_27 (dk_at dksX4_rowPotential_0 2 rfl rfl)
theorem dX4_rowPotential_3 : decode cX4_rowPotential 3 = .ok (.invokevirtual 122, 3) := dk_182 0 122 (dk_at dksX4_rowPotential_0 3 rfl rfl)
theorem dX4_rowPotential_6 : decode cX4_rowPotential 6 = .ok (.ifCond .eq 7, 3) := dk_153 0 7 (dk_at dksX4_rowPotential_0 6 rfl rfl)
theorem dX4_rowPotential_9 : decode cX4_rowPotential 9 = .ok (.iconst 0, 1) := dk_3 (dk_at dksX4_rowPotential_0 9 rfl rfl)
theorem dX4_rowPotential_10 : decode cX4_rowPotential 10 = .ok (.goto 4, 3) := dk_167 0 4 (dk_at dksX4_rowPotential_0 10 rfl rfl)
theorem dX4_rowPotential_13 : decode cX4_rowPotential 13 = .ok (.iconst 1, 1) := dk_4 (dk_at dksX4_rowPotential_0 13 rfl rfl)
theorem dX4_rowPotential_14 : decode cX4_rowPotential 14 = .ok (.invokevirtual 118, 3) := dk_182 0 118 (dk_at dksX4_rowPotential_0 14 rfl rfl)
theorem dX4_rowPotential_17 : decode cX4_rowPotential 17 = .ok (.ifCond .eq 5, 3) := dk_153 0 5 (dk_at dksX4_rowPotential_0 17 rfl rfl)
theorem dX4_rowPotential_20 : decode cX4_rowPotential 20 = .ok (.iconst 0, 1) := dk_3 (dk_at dksX4_rowPotential_0 20 rfl rfl)
theorem dX4_rowPotential_21 : decode cX4_rowPotential 21 = .ok (.ireturn, 1) := dk_172 (dk_at dksX4_rowPotential_0 21 rfl rfl)
theorem dX4_rowPotential_22 : decode cX4_rowPotential 22 = .ok (.aload_n 0, 1) := dk_42 (dk_at dksX4_rowPotential_0 22 rfl rfl)
theorem dX4_rowPotential_23 : decode cX4_rowPotential 23 = .ok (.invokevirtual 159, 3) := dk_182 0 159 (dk_at dksX4_rowPotential_1 0 rfl rfl)
theorem dX4_rowPotential_26 : decode cX4_rowPotential 26 = .ok (.aload_n 0, 1) := dk_42 (dk_at dksX4_rowPotential_1 3 rfl rfl)
theorem dX4_rowPotential_27 : decode cX4_rowPotential 27 = .ok (.getfield 54, 3) := dk_180 0 54 (dk_at dksX4_rowPotential_1 4 rfl rfl)
theorem dX4_rowPotential_30 : decode cX4_rowPotential 30 = .ok (.iload_n 1, 1) := dk_27 (dk_at dksX4_rowPotential_1 7 rfl rfl)
theorem dX4_rowPotential_31 : decode cX4_rowPotential 31 = .ok (.iaload, 1) := dk_46 (dk_at dksX4_rowPotential_1 8 rfl rfl)
theorem dX4_rowPotential_32 : decode cX4_rowPotential 32 = .ok (.ireturn, 1) := dk_172 (dk_at dksX4_rowPotential_1 9 rfl rfl)
abbrev cX4_findPotentials : ByteArray := prog_7_method_19_code
def yX4_findPotentials : MethodName := ⟨RX4, "findPotentials", "()V"⟩
def dkwX4_findPotentials_5 : List UInt8 := [180, 0, 57, 27, 46, 79, 132, 2, 1, 167, 255, 200, 132, 1, 1, 167, 255, 176, 177]
abbrev dktX4_findPotentials_5 : List UInt8 := dkwX4_findPotentials_5 ++ []
def dkwX4_findPotentials_4 : List UInt8 := [100, 62, 42, 180, 0, 57, 27, 29, 42, 180, 0, 57, 27, 46, 162, 0, 7, 29, 167, 0, 9, 42]
abbrev dktX4_findPotentials_4 : List UInt8 := dkwX4_findPotentials_4 ++ dktX4_findPotentials_5
def dkwX4_findPotentials_3 : List UInt8 := [42, 180, 0, 7, 162, 0, 54, 42, 180, 0, 36, 16, 7, 28, 104, 27, 96, 46, 42, 180, 0, 54, 28, 46]
abbrev dktX4_findPotentials_3 : List UInt8 := dkwX4_findPotentials_3 ++ dktX4_findPotentials_4
def dkwX4_findPotentials_2 : List UInt8 := [167, 255, 215, 3, 60, 27, 42, 180, 0, 7, 162, 0, 78, 42, 180, 0, 57, 27, 18, 79, 79, 3, 61, 28]
abbrev dktX4_findPotentials_2 : List UInt8 := dkwX4_findPotentials_2 ++ dktX4_findPotentials_3
def dkwX4_findPotentials_1 : List UInt8 := [180, 0, 39, 16, 7, 27, 104, 46, 42, 180, 0, 36, 16, 7, 27, 104, 46, 100, 100, 79, 132, 1, 1]
abbrev dktX4_findPotentials_1 : List UInt8 := dkwX4_findPotentials_1 ++ dktX4_findPotentials_2
def dkwX4_findPotentials_0 : List UInt8 := [42, 182, 0, 114, 3, 60, 27, 42, 180, 0, 7, 162, 0, 39, 42, 180, 0, 54, 27, 42, 180, 0, 80, 42]
abbrev dktX4_findPotentials_0 : List UInt8 := dkwX4_findPotentials_0 ++ dktX4_findPotentials_1
theorem dksX4_findPotentials_0 : cX4_findPotentials.data.toList.drop 0 = dktX4_findPotentials_0 := by decide +kernel
theorem dksX4_findPotentials_1 : cX4_findPotentials.data.toList.drop 24 = dktX4_findPotentials_1 := dk_seg dksX4_findPotentials_0 24 rfl rfl
theorem dksX4_findPotentials_2 : cX4_findPotentials.data.toList.drop 47 = dktX4_findPotentials_2 := dk_seg dksX4_findPotentials_1 23 rfl rfl
theorem dksX4_findPotentials_3 : cX4_findPotentials.data.toList.drop 71 = dktX4_findPotentials_3 := dk_seg dksX4_findPotentials_2 24 rfl rfl
theorem dksX4_findPotentials_4 : cX4_findPotentials.data.toList.drop 95 = dktX4_findPotentials_4 := dk_seg dksX4_findPotentials_3 24 rfl rfl
theorem dksX4_findPotentials_5 : cX4_findPotentials.data.toList.drop 117 = dktX4_findPotentials_5 := dk_seg dksX4_findPotentials_4 22 rfl rfl
theorem dX4_findPotentials_0 : decode cX4_findPotentials 0 = .ok (.aload_n 0, 1) := dk_42 (dk_at dksX4_findPotentials_0 0 rfl rfl)
theorem dX4_findPotentials_1 : decode cX4_findPotentials 1 = .ok (.invokevirtual 114, 3) := dk_182 0 114 (dk_at dksX4_findPotentials_0 1 rfl rfl)
theorem dX4_findPotentials_4 : decode cX4_findPotentials 4 = .ok (.iconst 0, 1) := dk_3 (dk_at dksX4_findPotentials_0 4 rfl rfl)
theorem dX4_findPotentials_5 : decode cX4_findPotentials 5 = .ok (.istore_n 1, 1) := dk_60 (dk_at dksX4_findPotentials_0 5 rfl rfl)
theorem dX4_findPotentials_6 : decode cX4_findPotentials 6 = .ok (.iload_n 1, 1) := dk_27 (dk_at dksX4_findPotentials_0 6 rfl rfl)
theorem dX4_findPotentials_7 : decode cX4_findPotentials 7 = .ok (.aload_n 0, 1) := dk_42 (dk_at dksX4_findPotentials_0 7 rfl rfl)
theorem dX4_findPotentials_8 : decode cX4_findPotentials 8 = .ok (.getfield 7, 3) := dk_180 0 7 (dk_at dksX4_findPotentials_0 8 rfl rfl)
theorem dX4_findPotentials_11 : decode cX4_findPotentials 11 = .ok (.if_icmp .ge 39, 3) := dk_162 0 39 (dk_at dksX4_findPotentials_0 11 rfl rfl)
theorem dX4_findPotentials_14 : decode cX4_findPotentials 14 = .ok (.aload_n 0, 1) := dk_42 (dk_at dksX4_findPotentials_0 14 rfl rfl)
theorem dX4_findPotentials_15 : decode cX4_findPotentials 15 = .ok (.getfield 54, 3) := dk_180 0 54 (dk_at dksX4_findPotentials_0 15 rfl rfl)
theorem dX4_findPotentials_18 : decode cX4_findPotentials 18 = .ok (.iload_n 1, 1) := dk_27 (dk_at dksX4_findPotentials_0 18 rfl rfl)
theorem dX4_findPotentials_19 : decode cX4_findPotentials 19 = .ok (.aload_n 0, 1) := dk_42 (dk_at dksX4_findPotentials_0 19 rfl rfl)
theorem dX4_findPotentials_20 : decode cX4_findPotentials 20 = .ok (.getfield 80, 3) := dk_180 0 80 (dk_at dksX4_findPotentials_0 20 rfl rfl)
theorem dX4_findPotentials_23 : decode cX4_findPotentials 23 = .ok (.aload_n 0, 1) := dk_42 (dk_at dksX4_findPotentials_0 23 rfl rfl)
theorem dX4_findPotentials_24 : decode cX4_findPotentials 24 = .ok (.getfield 39, 3) := dk_180 0 39 (dk_at dksX4_findPotentials_1 0 rfl rfl)
theorem dX4_findPotentials_27 : decode cX4_findPotentials 27 = .ok (.bipush 7, 2) := dk_16 7 (dk_at dksX4_findPotentials_1 3 rfl rfl)
theorem dX4_findPotentials_29 : decode cX4_findPotentials 29 = .ok (.iload_n 1, 1) := dk_27 (dk_at dksX4_findPotentials_1 5 rfl rfl)
theorem dX4_findPotentials_30 : decode cX4_findPotentials 30 = .ok (.imul, 1) := dk_104 (dk_at dksX4_findPotentials_1 6 rfl rfl)
theorem dX4_findPotentials_31 : decode cX4_findPotentials 31 = .ok (.iaload, 1) := dk_46 (dk_at dksX4_findPotentials_1 7 rfl rfl)
theorem dX4_findPotentials_32 : decode cX4_findPotentials 32 = .ok (.aload_n 0, 1) := dk_42 (dk_at dksX4_findPotentials_1 8 rfl rfl)
theorem dX4_findPotentials_33 : decode cX4_findPotentials 33 = .ok (.getfield 36, 3) := dk_180 0 36 (dk_at dksX4_findPotentials_1 9 rfl rfl)
theorem dX4_findPotentials_36 : decode cX4_findPotentials 36 = .ok (.bipush 7, 2) := dk_16 7 (dk_at dksX4_findPotentials_1 12 rfl rfl)
theorem dX4_findPotentials_38 : decode cX4_findPotentials 38 = .ok (.iload_n 1, 1) := dk_27 (dk_at dksX4_findPotentials_1 14 rfl rfl)
theorem dX4_findPotentials_39 : decode cX4_findPotentials 39 = .ok (.imul, 1) := dk_104 (dk_at dksX4_findPotentials_1 15 rfl rfl)
theorem dX4_findPotentials_40 : decode cX4_findPotentials 40 = .ok (.iaload, 1) := dk_46 (dk_at dksX4_findPotentials_1 16 rfl rfl)
theorem dX4_findPotentials_41 : decode cX4_findPotentials 41 = .ok (.isub, 1) := dk_100 (dk_at dksX4_findPotentials_1 17 rfl rfl)
theorem dX4_findPotentials_42 : decode cX4_findPotentials 42 = .ok (.isub, 1) := dk_100 (dk_at dksX4_findPotentials_1 18 rfl rfl)
theorem dX4_findPotentials_43 : decode cX4_findPotentials 43 = .ok (.iastore, 1) := dk_79 (dk_at dksX4_findPotentials_1 19 rfl rfl)
theorem dX4_findPotentials_44 : decode cX4_findPotentials 44 = .ok (.iinc 1 1, 3) := dk_132 1 1 (dk_at dksX4_findPotentials_1 20 rfl rfl)
theorem dX4_findPotentials_47 : decode cX4_findPotentials 47 = .ok (.goto (-41), 3) := dk_167 255 215 (dk_at dksX4_findPotentials_2 0 rfl rfl)
theorem dX4_findPotentials_50 : decode cX4_findPotentials 50 = .ok (.iconst 0, 1) := dk_3 (dk_at dksX4_findPotentials_2 3 rfl rfl)
theorem dX4_findPotentials_51 : decode cX4_findPotentials 51 = .ok (.istore_n 1, 1) := dk_60 (dk_at dksX4_findPotentials_2 4 rfl rfl)
theorem dX4_findPotentials_52 : decode cX4_findPotentials 52 = .ok (.iload_n 1, 1) := dk_27 (dk_at dksX4_findPotentials_2 5 rfl rfl)
theorem dX4_findPotentials_53 : decode cX4_findPotentials 53 = .ok (.aload_n 0, 1) := dk_42 (dk_at dksX4_findPotentials_2 6 rfl rfl)
theorem dX4_findPotentials_54 : decode cX4_findPotentials 54 = .ok (.getfield 7, 3) := dk_180 0 7 (dk_at dksX4_findPotentials_2 7 rfl rfl)
theorem dX4_findPotentials_57 : decode cX4_findPotentials 57 = .ok (.if_icmp .ge 78, 3) := dk_162 0 78 (dk_at dksX4_findPotentials_2 10 rfl rfl)
theorem dX4_findPotentials_60 : decode cX4_findPotentials 60 = .ok (.aload_n 0, 1) := dk_42 (dk_at dksX4_findPotentials_2 13 rfl rfl)
theorem dX4_findPotentials_61 : decode cX4_findPotentials 61 = .ok (.getfield 57, 3) := dk_180 0 57 (dk_at dksX4_findPotentials_2 14 rfl rfl)
theorem dX4_findPotentials_64 : decode cX4_findPotentials 64 = .ok (.iload_n 1, 1) := dk_27 (dk_at dksX4_findPotentials_2 17 rfl rfl)
theorem dX4_findPotentials_65 : decode cX4_findPotentials 65 = .ok (.ldc 79, 2) := dk_18 79 (dk_at dksX4_findPotentials_2 18 rfl rfl)
theorem dX4_findPotentials_67 : decode cX4_findPotentials 67 = .ok (.iastore, 1) := dk_79 (dk_at dksX4_findPotentials_2 20 rfl rfl)
theorem dX4_findPotentials_68 : decode cX4_findPotentials 68 = .ok (.iconst 0, 1) := dk_3 (dk_at dksX4_findPotentials_2 21 rfl rfl)
theorem dX4_findPotentials_69 : decode cX4_findPotentials 69 = .ok (.istore_n 2, 1) := dk_61 (dk_at dksX4_findPotentials_2 22 rfl rfl)
theorem dX4_findPotentials_70 : decode cX4_findPotentials 70 = .ok (.iload_n 2, 1) := dk_28 (dk_at dksX4_findPotentials_2 23 rfl rfl)
theorem dX4_findPotentials_71 : decode cX4_findPotentials 71 = .ok (.aload_n 0, 1) := dk_42 (dk_at dksX4_findPotentials_3 0 rfl rfl)
theorem dX4_findPotentials_72 : decode cX4_findPotentials 72 = .ok (.getfield 7, 3) := dk_180 0 7 (dk_at dksX4_findPotentials_3 1 rfl rfl)
theorem dX4_findPotentials_75 : decode cX4_findPotentials 75 = .ok (.if_icmp .ge 54, 3) := dk_162 0 54 (dk_at dksX4_findPotentials_3 4 rfl rfl)
theorem dX4_findPotentials_78 : decode cX4_findPotentials 78 = .ok (.aload_n 0, 1) := dk_42 (dk_at dksX4_findPotentials_3 7 rfl rfl)
theorem dX4_findPotentials_79 : decode cX4_findPotentials 79 = .ok (.getfield 36, 3) := dk_180 0 36 (dk_at dksX4_findPotentials_3 8 rfl rfl)
theorem dX4_findPotentials_82 : decode cX4_findPotentials 82 = .ok (.bipush 7, 2) := dk_16 7 (dk_at dksX4_findPotentials_3 11 rfl rfl)
theorem dX4_findPotentials_84 : decode cX4_findPotentials 84 = .ok (.iload_n 2, 1) := dk_28 (dk_at dksX4_findPotentials_3 13 rfl rfl)
theorem dX4_findPotentials_85 : decode cX4_findPotentials 85 = .ok (.imul, 1) := dk_104 (dk_at dksX4_findPotentials_3 14 rfl rfl)
theorem dX4_findPotentials_86 : decode cX4_findPotentials 86 = .ok (.iload_n 1, 1) := dk_27 (dk_at dksX4_findPotentials_3 15 rfl rfl)
theorem dX4_findPotentials_87 : decode cX4_findPotentials 87 = .ok (.iadd, 1) := dk_96 (dk_at dksX4_findPotentials_3 16 rfl rfl)
theorem dX4_findPotentials_88 : decode cX4_findPotentials 88 = .ok (.iaload, 1) := dk_46 (dk_at dksX4_findPotentials_3 17 rfl rfl)
theorem dX4_findPotentials_89 : decode cX4_findPotentials 89 = .ok (.aload_n 0, 1) := dk_42 (dk_at dksX4_findPotentials_3 18 rfl rfl)
theorem dX4_findPotentials_90 : decode cX4_findPotentials 90 = .ok (.getfield 54, 3) := dk_180 0 54 (dk_at dksX4_findPotentials_3 19 rfl rfl)
theorem dX4_findPotentials_93 : decode cX4_findPotentials 93 = .ok (.iload_n 2, 1) := dk_28 (dk_at dksX4_findPotentials_3 22 rfl rfl)
theorem dX4_findPotentials_94 : decode cX4_findPotentials 94 = .ok (.iaload, 1) := dk_46 (dk_at dksX4_findPotentials_3 23 rfl rfl)
theorem dX4_findPotentials_95 : decode cX4_findPotentials 95 = .ok (.isub, 1) := dk_100 (dk_at dksX4_findPotentials_4 0 rfl rfl)
theorem dX4_findPotentials_96 : decode cX4_findPotentials 96 = .ok (.istore_n 3, 1) := dk_62 (dk_at dksX4_findPotentials_4 1 rfl rfl)
theorem dX4_findPotentials_97 : decode cX4_findPotentials 97 = .ok (.aload_n 0, 1) := dk_42 (dk_at dksX4_findPotentials_4 2 rfl rfl)
theorem dX4_findPotentials_98 : decode cX4_findPotentials 98 = .ok (.getfield 57, 3) := dk_180 0 57 (dk_at dksX4_findPotentials_4 3 rfl rfl)
theorem dX4_findPotentials_101 : decode cX4_findPotentials 101 = .ok (.iload_n 1, 1) := dk_27 (dk_at dksX4_findPotentials_4 6 rfl rfl)
theorem dX4_findPotentials_102 : decode cX4_findPotentials 102 = .ok (.iload_n 3, 1) := dk_29 (dk_at dksX4_findPotentials_4 7 rfl rfl)
theorem dX4_findPotentials_103 : decode cX4_findPotentials 103 = .ok (.aload_n 0, 1) := dk_42 (dk_at dksX4_findPotentials_4 8 rfl rfl)
theorem dX4_findPotentials_104 : decode cX4_findPotentials 104 = .ok (.getfield 57, 3) := dk_180 0 57 (dk_at dksX4_findPotentials_4 9 rfl rfl)
theorem dX4_findPotentials_107 : decode cX4_findPotentials 107 = .ok (.iload_n 1, 1) := dk_27 (dk_at dksX4_findPotentials_4 12 rfl rfl)
theorem dX4_findPotentials_108 : decode cX4_findPotentials 108 = .ok (.iaload, 1) := dk_46 (dk_at dksX4_findPotentials_4 13 rfl rfl)
theorem dX4_findPotentials_109 : decode cX4_findPotentials 109 = .ok (.if_icmp .ge 7, 3) := dk_162 0 7 (dk_at dksX4_findPotentials_4 14 rfl rfl)
theorem dX4_findPotentials_112 : decode cX4_findPotentials 112 = .ok (.iload_n 3, 1) := dk_29 (dk_at dksX4_findPotentials_4 17 rfl rfl)
theorem dX4_findPotentials_113 : decode cX4_findPotentials 113 = .ok (.goto 9, 3) := dk_167 0 9 (dk_at dksX4_findPotentials_4 18 rfl rfl)
theorem dX4_findPotentials_116 : decode cX4_findPotentials 116 = .ok (.aload_n 0, 1) := dk_42 (dk_at dksX4_findPotentials_4 21 rfl rfl)
theorem dX4_findPotentials_117 : decode cX4_findPotentials 117 = .ok (.getfield 57, 3) := dk_180 0 57 (dk_at dksX4_findPotentials_5 0 rfl rfl)
theorem dX4_findPotentials_120 : decode cX4_findPotentials 120 = .ok (.iload_n 1, 1) := dk_27 (dk_at dksX4_findPotentials_5 3 rfl rfl)
theorem dX4_findPotentials_121 : decode cX4_findPotentials 121 = .ok (.iaload, 1) := dk_46 (dk_at dksX4_findPotentials_5 4 rfl rfl)
theorem dX4_findPotentials_122 : decode cX4_findPotentials 122 = .ok (.iastore, 1) := dk_79 (dk_at dksX4_findPotentials_5 5 rfl rfl)
theorem dX4_findPotentials_123 : decode cX4_findPotentials 123 = .ok (.iinc 2 1, 3) := dk_132 2 1 (dk_at dksX4_findPotentials_5 6 rfl rfl)
theorem dX4_findPotentials_126 : decode cX4_findPotentials 126 = .ok (.goto (-56), 3) := dk_167 255 200 (dk_at dksX4_findPotentials_5 9 rfl rfl)
theorem dX4_findPotentials_129 : decode cX4_findPotentials 129 = .ok (.iinc 1 1, 3) := dk_132 1 1 (dk_at dksX4_findPotentials_5 12 rfl rfl)
theorem dX4_findPotentials_132 : decode cX4_findPotentials 132 = .ok (.goto (-80), 3) := dk_167 255 176 (dk_at dksX4_findPotentials_5 15 rfl rfl)
theorem dX4_findPotentials_135 : decode cX4_findPotentials 135 = .ok (.return_, 1) := dk_177 (dk_at dksX4_findPotentials_5 18 rfl rfl)
abbrev cX4_columnPotential : ByteArray := prog_7_method_50_code
def yX4_columnPotential : MethodName := ⟨RX4, "columnPotential", "(I)I"⟩
def dkwX4_columnPotential_1 : List UInt8 := [182, 0, 159, 42, 180, 0, 57, 27, 46, 172]
abbrev dktX4_columnPotential_1 : List UInt8 := dkwX4_columnPotential_1 ++ []
def dkwX4_columnPotential_0 : List UInt8 := [42, 42, 27, 182, 0, 122, 153, 0, 7, 3, 167, 0, 4, 4, 182, 0, 118, 153, 0, 5, 3, 172, 42]
abbrev dktX4_columnPotential_0 : List UInt8 := dkwX4_columnPotential_0 ++ dktX4_columnPotential_1
theorem dksX4_columnPotential_0 : cX4_columnPotential.data.toList.drop 0 = dktX4_columnPotential_0 := by decide +kernel
theorem dksX4_columnPotential_1 : cX4_columnPotential.data.toList.drop 23 = dktX4_columnPotential_1 := dk_seg dksX4_columnPotential_0 23 rfl rfl
theorem dX4_columnPotential_0 : decode cX4_columnPotential 0 = .ok (.aload_n 0, 1) := dk_42 (dk_at dksX4_columnPotential_0 0 rfl rfl)
theorem dX4_columnPotential_1 : decode cX4_columnPotential 1 = .ok (.aload_n 0, 1) := dk_42 (dk_at dksX4_columnPotential_0 1 rfl rfl)
theorem dX4_columnPotential_2 : decode cX4_columnPotential 2 = .ok (.iload_n 1, 1) := dk_27 (dk_at dksX4_columnPotential_0 2 rfl rfl)
theorem dX4_columnPotential_3 : decode cX4_columnPotential 3 = .ok (.invokevirtual 122, 3) := dk_182 0 122 (dk_at dksX4_columnPotential_0 3 rfl rfl)
theorem dX4_columnPotential_6 : decode cX4_columnPotential 6 = .ok (.ifCond .eq 7, 3) := dk_153 0 7 (dk_at dksX4_columnPotential_0 6 rfl rfl)
theorem dX4_columnPotential_9 : decode cX4_columnPotential 9 = .ok (.iconst 0, 1) := dk_3 (dk_at dksX4_columnPotential_0 9 rfl rfl)
theorem dX4_columnPotential_10 : decode cX4_columnPotential 10 = .ok (.goto 4, 3) := dk_167 0 4 (dk_at dksX4_columnPotential_0 10 rfl rfl)
theorem dX4_columnPotential_13 : decode cX4_columnPotential 13 = .ok (.iconst 1, 1) := dk_4 (dk_at dksX4_columnPotential_0 13 rfl rfl)
theorem dX4_columnPotential_14 : decode cX4_columnPotential 14 = .ok (.invokevirtual 118, 3) := dk_182 0 118 (dk_at dksX4_columnPotential_0 14 rfl rfl)
theorem dX4_columnPotential_17 : decode cX4_columnPotential 17 = .ok (.ifCond .eq 5, 3) := dk_153 0 5 (dk_at dksX4_columnPotential_0 17 rfl rfl)
theorem dX4_columnPotential_20 : decode cX4_columnPotential 20 = .ok (.iconst 0, 1) := dk_3 (dk_at dksX4_columnPotential_0 20 rfl rfl)
theorem dX4_columnPotential_21 : decode cX4_columnPotential 21 = .ok (.ireturn, 1) := dk_172 (dk_at dksX4_columnPotential_0 21 rfl rfl)
theorem dX4_columnPotential_22 : decode cX4_columnPotential 22 = .ok (.aload_n 0, 1) := dk_42 (dk_at dksX4_columnPotential_0 22 rfl rfl)
theorem dX4_columnPotential_23 : decode cX4_columnPotential 23 = .ok (.invokevirtual 159, 3) := dk_182 0 159 (dk_at dksX4_columnPotential_1 0 rfl rfl)
theorem dX4_columnPotential_26 : decode cX4_columnPotential 26 = .ok (.aload_n 0, 1) := dk_42 (dk_at dksX4_columnPotential_1 3 rfl rfl)
theorem dX4_columnPotential_27 : decode cX4_columnPotential 27 = .ok (.getfield 57, 3) := dk_180 0 57 (dk_at dksX4_columnPotential_1 4 rfl rfl)
theorem dX4_columnPotential_30 : decode cX4_columnPotential 30 = .ok (.iload_n 1, 1) := dk_27 (dk_at dksX4_columnPotential_1 7 rfl rfl)
theorem dX4_columnPotential_31 : decode cX4_columnPotential 31 = .ok (.iaload, 1) := dk_46 (dk_at dksX4_columnPotential_1 8 rfl rfl)
theorem dX4_columnPotential_32 : decode cX4_columnPotential 32 = .ok (.ireturn, 1) := dk_172 (dk_at dksX4_columnPotential_1 9 rfl rfl)
abbrev cX4_reducedCost : ByteArray := prog_7_method_51_code
def yX4_reducedCost : MethodName := ⟨RX4, "reducedCost", "(II)I"⟩
def dkwX4_reducedCost_1 : List UInt8 := [182, 0, 118, 153, 0, 5, 3, 172, 42, 182, 0, 159, 42, 27, 28, 182, 0, 162, 172]
abbrev dktX4_reducedCost_1 : List UInt8 := dkwX4_reducedCost_1 ++ []
def dkwX4_reducedCost_0 : List UInt8 := [42, 42, 27, 182, 0, 122, 153, 0, 11, 42, 28, 182, 0, 122, 154, 0, 7, 4, 167, 0, 4, 3]
abbrev dktX4_reducedCost_0 : List UInt8 := dkwX4_reducedCost_0 ++ dktX4_reducedCost_1
theorem dksX4_reducedCost_0 : cX4_reducedCost.data.toList.drop 0 = dktX4_reducedCost_0 := by decide +kernel
theorem dksX4_reducedCost_1 : cX4_reducedCost.data.toList.drop 22 = dktX4_reducedCost_1 := dk_seg dksX4_reducedCost_0 22 rfl rfl
theorem dX4_reducedCost_0 : decode cX4_reducedCost 0 = .ok (.aload_n 0, 1) := dk_42 (dk_at dksX4_reducedCost_0 0 rfl rfl)
theorem dX4_reducedCost_1 : decode cX4_reducedCost 1 = .ok (.aload_n 0, 1) := dk_42 (dk_at dksX4_reducedCost_0 1 rfl rfl)
theorem dX4_reducedCost_2 : decode cX4_reducedCost 2 = .ok (.iload_n 1, 1) := dk_27 (dk_at dksX4_reducedCost_0 2 rfl rfl)
theorem dX4_reducedCost_3 : decode cX4_reducedCost 3 = .ok (.invokevirtual 122, 3) := dk_182 0 122 (dk_at dksX4_reducedCost_0 3 rfl rfl)
theorem dX4_reducedCost_6 : decode cX4_reducedCost 6 = .ok (.ifCond .eq 11, 3) := dk_153 0 11 (dk_at dksX4_reducedCost_0 6 rfl rfl)
theorem dX4_reducedCost_9 : decode cX4_reducedCost 9 = .ok (.aload_n 0, 1) := dk_42 (dk_at dksX4_reducedCost_0 9 rfl rfl)
theorem dX4_reducedCost_10 : decode cX4_reducedCost 10 = .ok (.iload_n 2, 1) := dk_28 (dk_at dksX4_reducedCost_0 10 rfl rfl)
theorem dX4_reducedCost_11 : decode cX4_reducedCost 11 = .ok (.invokevirtual 122, 3) := dk_182 0 122 (dk_at dksX4_reducedCost_0 11 rfl rfl)
theorem dX4_reducedCost_14 : decode cX4_reducedCost 14 = .ok (.ifCond .ne 7, 3) := dk_154 0 7 (dk_at dksX4_reducedCost_0 14 rfl rfl)
theorem dX4_reducedCost_17 : decode cX4_reducedCost 17 = .ok (.iconst 1, 1) := dk_4 (dk_at dksX4_reducedCost_0 17 rfl rfl)
theorem dX4_reducedCost_18 : decode cX4_reducedCost 18 = .ok (.goto 4, 3) := dk_167 0 4 (dk_at dksX4_reducedCost_0 18 rfl rfl)
theorem dX4_reducedCost_21 : decode cX4_reducedCost 21 = .ok (.iconst 0, 1) := dk_3 (dk_at dksX4_reducedCost_0 21 rfl rfl)
theorem dX4_reducedCost_22 : decode cX4_reducedCost 22 = .ok (.invokevirtual 118, 3) := dk_182 0 118 (dk_at dksX4_reducedCost_1 0 rfl rfl)
theorem dX4_reducedCost_25 : decode cX4_reducedCost 25 = .ok (.ifCond .eq 5, 3) := dk_153 0 5 (dk_at dksX4_reducedCost_1 3 rfl rfl)
theorem dX4_reducedCost_28 : decode cX4_reducedCost 28 = .ok (.iconst 0, 1) := dk_3 (dk_at dksX4_reducedCost_1 6 rfl rfl)
theorem dX4_reducedCost_29 : decode cX4_reducedCost 29 = .ok (.ireturn, 1) := dk_172 (dk_at dksX4_reducedCost_1 7 rfl rfl)
theorem dX4_reducedCost_30 : decode cX4_reducedCost 30 = .ok (.aload_n 0, 1) := dk_42 (dk_at dksX4_reducedCost_1 8 rfl rfl)
theorem dX4_reducedCost_31 : decode cX4_reducedCost 31 = .ok (.invokevirtual 159, 3) := dk_182 0 159 (dk_at dksX4_reducedCost_1 9 rfl rfl)
theorem dX4_reducedCost_34 : decode cX4_reducedCost 34 = .ok (.aload_n 0, 1) := dk_42 (dk_at dksX4_reducedCost_1 12 rfl rfl)
theorem dX4_reducedCost_35 : decode cX4_reducedCost 35 = .ok (.iload_n 1, 1) := dk_27 (dk_at dksX4_reducedCost_1 13 rfl rfl)
theorem dX4_reducedCost_36 : decode cX4_reducedCost 36 = .ok (.iload_n 2, 1) := dk_28 (dk_at dksX4_reducedCost_1 14 rfl rfl)
theorem dX4_reducedCost_37 : decode cX4_reducedCost 37 = .ok (.invokevirtual 162, 3) := dk_182 0 162 (dk_at dksX4_reducedCost_1 15 rfl rfl)
theorem dX4_reducedCost_40 : decode cX4_reducedCost 40 = .ok (.ireturn, 1) := dk_172 (dk_at dksX4_reducedCost_1 18 rfl rfl)
abbrev cX4_reduced : ByteArray := prog_7_method_20_code
def yX4_reduced : MethodName := ⟨RX4, "reduced", "(II)I"⟩
def dkwX4_reduced_1 : List UInt8 := [100, 172]
abbrev dktX4_reduced_1 : List UInt8 := dkwX4_reduced_1 ++ []
def dkwX4_reduced_0 : List UInt8 := [42, 180, 0, 36, 16, 7, 27, 104, 28, 96, 46, 42, 180, 0, 54, 27, 46, 100, 42, 180, 0, 57, 28, 46]
abbrev dktX4_reduced_0 : List UInt8 := dkwX4_reduced_0 ++ dktX4_reduced_1
theorem dksX4_reduced_0 : cX4_reduced.data.toList.drop 0 = dktX4_reduced_0 := by decide +kernel
theorem dksX4_reduced_1 : cX4_reduced.data.toList.drop 24 = dktX4_reduced_1 := dk_seg dksX4_reduced_0 24 rfl rfl
theorem dX4_reduced_0 : decode cX4_reduced 0 = .ok (.aload_n 0, 1) := dk_42 (dk_at dksX4_reduced_0 0 rfl rfl)
theorem dX4_reduced_1 : decode cX4_reduced 1 = .ok (.getfield 36, 3) := dk_180 0 36 (dk_at dksX4_reduced_0 1 rfl rfl)
theorem dX4_reduced_4 : decode cX4_reduced 4 = .ok (.bipush 7, 2) := dk_16 7 (dk_at dksX4_reduced_0 4 rfl rfl)
theorem dX4_reduced_6 : decode cX4_reduced 6 = .ok (.iload_n 1, 1) := dk_27 (dk_at dksX4_reduced_0 6 rfl rfl)
theorem dX4_reduced_7 : decode cX4_reduced 7 = .ok (.imul, 1) := dk_104 (dk_at dksX4_reduced_0 7 rfl rfl)
theorem dX4_reduced_8 : decode cX4_reduced 8 = .ok (.iload_n 2, 1) := dk_28 (dk_at dksX4_reduced_0 8 rfl rfl)
theorem dX4_reduced_9 : decode cX4_reduced 9 = .ok (.iadd, 1) := dk_96 (dk_at dksX4_reduced_0 9 rfl rfl)
theorem dX4_reduced_10 : decode cX4_reduced 10 = .ok (.iaload, 1) := dk_46 (dk_at dksX4_reduced_0 10 rfl rfl)
theorem dX4_reduced_11 : decode cX4_reduced 11 = .ok (.aload_n 0, 1) := dk_42 (dk_at dksX4_reduced_0 11 rfl rfl)
theorem dX4_reduced_12 : decode cX4_reduced 12 = .ok (.getfield 54, 3) := dk_180 0 54 (dk_at dksX4_reduced_0 12 rfl rfl)
theorem dX4_reduced_15 : decode cX4_reduced 15 = .ok (.iload_n 1, 1) := dk_27 (dk_at dksX4_reduced_0 15 rfl rfl)
theorem dX4_reduced_16 : decode cX4_reduced 16 = .ok (.iaload, 1) := dk_46 (dk_at dksX4_reduced_0 16 rfl rfl)
theorem dX4_reduced_17 : decode cX4_reduced 17 = .ok (.isub, 1) := dk_100 (dk_at dksX4_reduced_0 17 rfl rfl)
theorem dX4_reduced_18 : decode cX4_reduced 18 = .ok (.aload_n 0, 1) := dk_42 (dk_at dksX4_reduced_0 18 rfl rfl)
theorem dX4_reduced_19 : decode cX4_reduced 19 = .ok (.getfield 57, 3) := dk_180 0 57 (dk_at dksX4_reduced_0 19 rfl rfl)
theorem dX4_reduced_22 : decode cX4_reduced 22 = .ok (.iload_n 2, 1) := dk_28 (dk_at dksX4_reduced_0 22 rfl rfl)
theorem dX4_reduced_23 : decode cX4_reduced 23 = .ok (.iaload, 1) := dk_46 (dk_at dksX4_reduced_0 23 rfl rfl)
theorem dX4_reduced_24 : decode cX4_reduced 24 = .ok (.isub, 1) := dk_100 (dk_at dksX4_reduced_1 0 rfl rfl)
theorem dX4_reduced_25 : decode cX4_reduced 25 = .ok (.ireturn, 1) := dk_172 (dk_at dksX4_reduced_1 1 rfl rfl)
abbrev cX4_minimumWith : ByteArray := prog_7_method_52_code
def yX4_minimumWith : MethodName := ⟨RX4, "minimumWith", "(II)I"⟩
def dkwX4_minimumWith_1 : List UInt8 := [182, 0, 118, 153, 0, 5, 3, 172, 42, 182, 0, 114, 42, 180, 0, 39, 16, 7, 27, 104, 28, 96, 46, 172]
abbrev dktX4_minimumWith_1 : List UInt8 := dkwX4_minimumWith_1 ++ []
def dkwX4_minimumWith_0 : List UInt8 := [42, 42, 27, 182, 0, 122, 153, 0, 11, 42, 28, 182, 0, 122, 154, 0, 7, 4, 167, 0, 4, 3]
abbrev dktX4_minimumWith_0 : List UInt8 := dkwX4_minimumWith_0 ++ dktX4_minimumWith_1
theorem dksX4_minimumWith_0 : cX4_minimumWith.data.toList.drop 0 = dktX4_minimumWith_0 := by decide +kernel
theorem dksX4_minimumWith_1 : cX4_minimumWith.data.toList.drop 22 = dktX4_minimumWith_1 := dk_seg dksX4_minimumWith_0 22 rfl rfl
theorem dX4_minimumWith_0 : decode cX4_minimumWith 0 = .ok (.aload_n 0, 1) := dk_42 (dk_at dksX4_minimumWith_0 0 rfl rfl)
theorem dX4_minimumWith_1 : decode cX4_minimumWith 1 = .ok (.aload_n 0, 1) := dk_42 (dk_at dksX4_minimumWith_0 1 rfl rfl)
theorem dX4_minimumWith_2 : decode cX4_minimumWith 2 = .ok (.iload_n 1, 1) := dk_27 (dk_at dksX4_minimumWith_0 2 rfl rfl)
theorem dX4_minimumWith_3 : decode cX4_minimumWith 3 = .ok (.invokevirtual 122, 3) := dk_182 0 122 (dk_at dksX4_minimumWith_0 3 rfl rfl)
theorem dX4_minimumWith_6 : decode cX4_minimumWith 6 = .ok (.ifCond .eq 11, 3) := dk_153 0 11 (dk_at dksX4_minimumWith_0 6 rfl rfl)
theorem dX4_minimumWith_9 : decode cX4_minimumWith 9 = .ok (.aload_n 0, 1) := dk_42 (dk_at dksX4_minimumWith_0 9 rfl rfl)
theorem dX4_minimumWith_10 : decode cX4_minimumWith 10 = .ok (.iload_n 2, 1) := dk_28 (dk_at dksX4_minimumWith_0 10 rfl rfl)
theorem dX4_minimumWith_11 : decode cX4_minimumWith 11 = .ok (.invokevirtual 122, 3) := dk_182 0 122 (dk_at dksX4_minimumWith_0 11 rfl rfl)
theorem dX4_minimumWith_14 : decode cX4_minimumWith 14 = .ok (.ifCond .ne 7, 3) := dk_154 0 7 (dk_at dksX4_minimumWith_0 14 rfl rfl)
theorem dX4_minimumWith_17 : decode cX4_minimumWith 17 = .ok (.iconst 1, 1) := dk_4 (dk_at dksX4_minimumWith_0 17 rfl rfl)
theorem dX4_minimumWith_18 : decode cX4_minimumWith 18 = .ok (.goto 4, 3) := dk_167 0 4 (dk_at dksX4_minimumWith_0 18 rfl rfl)
theorem dX4_minimumWith_21 : decode cX4_minimumWith 21 = .ok (.iconst 0, 1) := dk_3 (dk_at dksX4_minimumWith_0 21 rfl rfl)
theorem dX4_minimumWith_22 : decode cX4_minimumWith 22 = .ok (.invokevirtual 118, 3) := dk_182 0 118 (dk_at dksX4_minimumWith_1 0 rfl rfl)
theorem dX4_minimumWith_25 : decode cX4_minimumWith 25 = .ok (.ifCond .eq 5, 3) := dk_153 0 5 (dk_at dksX4_minimumWith_1 3 rfl rfl)
theorem dX4_minimumWith_28 : decode cX4_minimumWith 28 = .ok (.iconst 0, 1) := dk_3 (dk_at dksX4_minimumWith_1 6 rfl rfl)
theorem dX4_minimumWith_29 : decode cX4_minimumWith 29 = .ok (.ireturn, 1) := dk_172 (dk_at dksX4_minimumWith_1 7 rfl rfl)
theorem dX4_minimumWith_30 : decode cX4_minimumWith 30 = .ok (.aload_n 0, 1) := dk_42 (dk_at dksX4_minimumWith_1 8 rfl rfl)
theorem dX4_minimumWith_31 : decode cX4_minimumWith 31 = .ok (.invokevirtual 114, 3) := dk_182 0 114 (dk_at dksX4_minimumWith_1 9 rfl rfl)
theorem dX4_minimumWith_34 : decode cX4_minimumWith 34 = .ok (.aload_n 0, 1) := dk_42 (dk_at dksX4_minimumWith_1 12 rfl rfl)
theorem dX4_minimumWith_35 : decode cX4_minimumWith 35 = .ok (.getfield 39, 3) := dk_180 0 39 (dk_at dksX4_minimumWith_1 13 rfl rfl)
theorem dX4_minimumWith_38 : decode cX4_minimumWith 38 = .ok (.bipush 7, 2) := dk_16 7 (dk_at dksX4_minimumWith_1 16 rfl rfl)
theorem dX4_minimumWith_40 : decode cX4_minimumWith 40 = .ok (.iload_n 1, 1) := dk_27 (dk_at dksX4_minimumWith_1 18 rfl rfl)
theorem dX4_minimumWith_41 : decode cX4_minimumWith 41 = .ok (.imul, 1) := dk_104 (dk_at dksX4_minimumWith_1 19 rfl rfl)
theorem dX4_minimumWith_42 : decode cX4_minimumWith 42 = .ok (.iload_n 2, 1) := dk_28 (dk_at dksX4_minimumWith_1 20 rfl rfl)
theorem dX4_minimumWith_43 : decode cX4_minimumWith 43 = .ok (.iadd, 1) := dk_96 (dk_at dksX4_minimumWith_1 21 rfl rfl)
theorem dX4_minimumWith_44 : decode cX4_minimumWith 44 = .ok (.iaload, 1) := dk_46 (dk_at dksX4_minimumWith_1 22 rfl rfl)
theorem dX4_minimumWith_45 : decode cX4_minimumWith 45 = .ok (.ireturn, 1) := dk_172 (dk_at dksX4_minimumWith_1 23 rfl rfl)
abbrev cX4_minimumWithout : ByteArray := prog_7_method_53_code
def yX4_minimumWithout : MethodName := ⟨RX4, "minimumWithout", "(II)I"⟩
def dkwX4_minimumWithout_2 : List UInt8 := [42, 27, 28, 182, 0, 165, 172]
abbrev dktX4_minimumWithout_2 : List UInt8 := dkwX4_minimumWithout_2 ++ []
def dkwX4_minimumWithout_1 : List UInt8 := [182, 0, 118, 153, 0, 5, 3, 172, 42, 182, 0, 114, 42, 180, 0, 7, 4, 160, 0, 7, 2, 167, 0, 9]
abbrev dktX4_minimumWithout_1 : List UInt8 := dkwX4_minimumWithout_1 ++ dktX4_minimumWithout_2
def dkwX4_minimumWithout_0 : List UInt8 := [42, 42, 27, 182, 0, 122, 153, 0, 11, 42, 28, 182, 0, 122, 154, 0, 7, 4, 167, 0, 4, 3]
abbrev dktX4_minimumWithout_0 : List UInt8 := dkwX4_minimumWithout_0 ++ dktX4_minimumWithout_1
theorem dksX4_minimumWithout_0 : cX4_minimumWithout.data.toList.drop 0 = dktX4_minimumWithout_0 := by decide +kernel
theorem dksX4_minimumWithout_1 : cX4_minimumWithout.data.toList.drop 22 = dktX4_minimumWithout_1 := dk_seg dksX4_minimumWithout_0 22 rfl rfl
theorem dksX4_minimumWithout_2 : cX4_minimumWithout.data.toList.drop 46 = dktX4_minimumWithout_2 := dk_seg dksX4_minimumWithout_1 24 rfl rfl
theorem dX4_minimumWithout_0 : decode cX4_minimumWithout 0 = .ok (.aload_n 0, 1) := dk_42 (dk_at dksX4_minimumWithout_0 0 rfl rfl)
theorem dX4_minimumWithout_1 : decode cX4_minimumWithout 1 = .ok (.aload_n 0, 1) := dk_42 (dk_at dksX4_minimumWithout_0 1 rfl rfl)
theorem dX4_minimumWithout_2 : decode cX4_minimumWithout 2 = .ok (.iload_n 1, 1) := dk_27 (dk_at dksX4_minimumWithout_0 2 rfl rfl)
theorem dX4_minimumWithout_3 : decode cX4_minimumWithout 3 = .ok (.invokevirtual 122, 3) := dk_182 0 122 (dk_at dksX4_minimumWithout_0 3 rfl rfl)
theorem dX4_minimumWithout_6 : decode cX4_minimumWithout 6 = .ok (.ifCond .eq 11, 3) := dk_153 0 11 (dk_at dksX4_minimumWithout_0 6 rfl rfl)
theorem dX4_minimumWithout_9 : decode cX4_minimumWithout 9 = .ok (.aload_n 0, 1) := dk_42 (dk_at dksX4_minimumWithout_0 9 rfl rfl)
theorem dX4_minimumWithout_10 : decode cX4_minimumWithout 10 = .ok (.iload_n 2, 1) := dk_28 (dk_at dksX4_minimumWithout_0 10 rfl rfl)
theorem dX4_minimumWithout_11 : decode cX4_minimumWithout 11 = .ok (.invokevirtual 122, 3) := dk_182 0 122 (dk_at dksX4_minimumWithout_0 11 rfl rfl)
theorem dX4_minimumWithout_14 : decode cX4_minimumWithout 14 = .ok (.ifCond .ne 7, 3) := dk_154 0 7 (dk_at dksX4_minimumWithout_0 14 rfl rfl)
theorem dX4_minimumWithout_17 : decode cX4_minimumWithout 17 = .ok (.iconst 1, 1) := dk_4 (dk_at dksX4_minimumWithout_0 17 rfl rfl)
theorem dX4_minimumWithout_18 : decode cX4_minimumWithout 18 = .ok (.goto 4, 3) := dk_167 0 4 (dk_at dksX4_minimumWithout_0 18 rfl rfl)
theorem dX4_minimumWithout_21 : decode cX4_minimumWithout 21 = .ok (.iconst 0, 1) := dk_3 (dk_at dksX4_minimumWithout_0 21 rfl rfl)
theorem dX4_minimumWithout_22 : decode cX4_minimumWithout 22 = .ok (.invokevirtual 118, 3) := dk_182 0 118 (dk_at dksX4_minimumWithout_1 0 rfl rfl)
theorem dX4_minimumWithout_25 : decode cX4_minimumWithout 25 = .ok (.ifCond .eq 5, 3) := dk_153 0 5 (dk_at dksX4_minimumWithout_1 3 rfl rfl)
theorem dX4_minimumWithout_28 : decode cX4_minimumWithout 28 = .ok (.iconst 0, 1) := dk_3 (dk_at dksX4_minimumWithout_1 6 rfl rfl)
theorem dX4_minimumWithout_29 : decode cX4_minimumWithout 29 = .ok (.ireturn, 1) := dk_172 (dk_at dksX4_minimumWithout_1 7 rfl rfl)
theorem dX4_minimumWithout_30 : decode cX4_minimumWithout 30 = .ok (.aload_n 0, 1) := dk_42 (dk_at dksX4_minimumWithout_1 8 rfl rfl)
theorem dX4_minimumWithout_31 : decode cX4_minimumWithout 31 = .ok (.invokevirtual 114, 3) := dk_182 0 114 (dk_at dksX4_minimumWithout_1 9 rfl rfl)
theorem dX4_minimumWithout_34 : decode cX4_minimumWithout 34 = .ok (.aload_n 0, 1) := dk_42 (dk_at dksX4_minimumWithout_1 12 rfl rfl)
theorem dX4_minimumWithout_35 : decode cX4_minimumWithout 35 = .ok (.getfield 7, 3) := dk_180 0 7 (dk_at dksX4_minimumWithout_1 13 rfl rfl)
theorem dX4_minimumWithout_38 : decode cX4_minimumWithout 38 = .ok (.iconst 1, 1) := dk_4 (dk_at dksX4_minimumWithout_1 16 rfl rfl)
theorem dX4_minimumWithout_39 : decode cX4_minimumWithout 39 = .ok (.if_icmp .ne 7, 3) := dk_160 0 7 (dk_at dksX4_minimumWithout_1 17 rfl rfl)
theorem dX4_minimumWithout_42 : decode cX4_minimumWithout 42 = .ok (.iconst (-1), 1) := dk_2 (dk_at dksX4_minimumWithout_1 20 rfl rfl)
theorem dX4_minimumWithout_43 : decode cX4_minimumWithout 43 = .ok (.goto 9, 3) := dk_167 0 9 (dk_at dksX4_minimumWithout_1 21 rfl rfl)
theorem dX4_minimumWithout_46 : decode cX4_minimumWithout 46 = .ok (.aload_n 0, 1) := dk_42 (dk_at dksX4_minimumWithout_2 0 rfl rfl)
theorem dX4_minimumWithout_47 : decode cX4_minimumWithout 47 = .ok (.iload_n 1, 1) := dk_27 (dk_at dksX4_minimumWithout_2 1 rfl rfl)
theorem dX4_minimumWithout_48 : decode cX4_minimumWithout 48 = .ok (.iload_n 2, 1) := dk_28 (dk_at dksX4_minimumWithout_2 2 rfl rfl)
theorem dX4_minimumWithout_49 : decode cX4_minimumWithout 49 = .ok (.invokevirtual 165, 3) := dk_182 0 165 (dk_at dksX4_minimumWithout_2 3 rfl rfl)
theorem dX4_minimumWithout_52 : decode cX4_minimumWithout 52 = .ok (.ireturn, 1) := dk_172 (dk_at dksX4_minimumWithout_2 6 rfl rfl)
abbrev cX4_without : ByteArray := prog_7_method_18_code
def yX4_without : MethodName := ⟨RX4, "without", "(II)I"⟩
def dkwX4_without_2 : List UInt8 := [21, 4, 96, 46, 167, 0, 4, 29, 62, 132, 4, 1, 167, 255, 205, 29, 172]
abbrev dktX4_without_2 : List UInt8 := dkwX4_without_2 ++ []
def dkwX4_without_1 : List UInt8 := [180, 0, 39, 16, 7, 27, 104, 21, 4, 96, 46, 29, 162, 0, 18, 42, 180, 0, 39, 16, 7, 27, 104]
abbrev dktX4_without_1 : List UInt8 := dkwX4_without_1 ++ dktX4_without_2
def dkwX4_without_0 : List UInt8 := [18, 79, 62, 3, 54, 4, 21, 4, 42, 180, 0, 7, 162, 0, 48, 21, 4, 28, 159, 0, 34, 42]
abbrev dktX4_without_0 : List UInt8 := dkwX4_without_0 ++ dktX4_without_1
theorem dksX4_without_0 : cX4_without.data.toList.drop 0 = dktX4_without_0 := by decide +kernel
theorem dksX4_without_1 : cX4_without.data.toList.drop 22 = dktX4_without_1 := dk_seg dksX4_without_0 22 rfl rfl
theorem dksX4_without_2 : cX4_without.data.toList.drop 45 = dktX4_without_2 := dk_seg dksX4_without_1 23 rfl rfl
theorem dX4_without_0 : decode cX4_without 0 = .ok (.ldc 79, 2) := dk_18 79 (dk_at dksX4_without_0 0 rfl rfl)
theorem dX4_without_2 : decode cX4_without 2 = .ok (.istore_n 3, 1) := dk_62 (dk_at dksX4_without_0 2 rfl rfl)
theorem dX4_without_3 : decode cX4_without 3 = .ok (.iconst 0, 1) := dk_3 (dk_at dksX4_without_0 3 rfl rfl)
theorem dX4_without_4 : decode cX4_without 4 = .ok (.istore 4, 2) := dk_54 4 (dk_at dksX4_without_0 4 rfl rfl)
theorem dX4_without_6 : decode cX4_without 6 = .ok (.iload 4, 2) := dk_21 4 (dk_at dksX4_without_0 6 rfl rfl)
theorem dX4_without_8 : decode cX4_without 8 = .ok (.aload_n 0, 1) := dk_42 (dk_at dksX4_without_0 8 rfl rfl)
theorem dX4_without_9 : decode cX4_without 9 = .ok (.getfield 7, 3) := dk_180 0 7 (dk_at dksX4_without_0 9 rfl rfl)
theorem dX4_without_12 : decode cX4_without 12 = .ok (.if_icmp .ge 48, 3) := dk_162 0 48 (dk_at dksX4_without_0 12 rfl rfl)
theorem dX4_without_15 : decode cX4_without 15 = .ok (.iload 4, 2) := dk_21 4 (dk_at dksX4_without_0 15 rfl rfl)
theorem dX4_without_17 : decode cX4_without 17 = .ok (.iload_n 2, 1) := dk_28 (dk_at dksX4_without_0 17 rfl rfl)
theorem dX4_without_18 : decode cX4_without 18 = .ok (.if_icmp .eq 34, 3) := dk_159 0 34 (dk_at dksX4_without_0 18 rfl rfl)
theorem dX4_without_21 : decode cX4_without 21 = .ok (.aload_n 0, 1) := dk_42 (dk_at dksX4_without_0 21 rfl rfl)
theorem dX4_without_22 : decode cX4_without 22 = .ok (.getfield 39, 3) := dk_180 0 39 (dk_at dksX4_without_1 0 rfl rfl)
theorem dX4_without_25 : decode cX4_without 25 = .ok (.bipush 7, 2) := dk_16 7 (dk_at dksX4_without_1 3 rfl rfl)
theorem dX4_without_27 : decode cX4_without 27 = .ok (.iload_n 1, 1) := dk_27 (dk_at dksX4_without_1 5 rfl rfl)
theorem dX4_without_28 : decode cX4_without 28 = .ok (.imul, 1) := dk_104 (dk_at dksX4_without_1 6 rfl rfl)
theorem dX4_without_29 : decode cX4_without 29 = .ok (.iload 4, 2) := dk_21 4 (dk_at dksX4_without_1 7 rfl rfl)
theorem dX4_without_31 : decode cX4_without 31 = .ok (.iadd, 1) := dk_96 (dk_at dksX4_without_1 9 rfl rfl)
theorem dX4_without_32 : decode cX4_without 32 = .ok (.iaload, 1) := dk_46 (dk_at dksX4_without_1 10 rfl rfl)
theorem dX4_without_33 : decode cX4_without 33 = .ok (.iload_n 3, 1) := dk_29 (dk_at dksX4_without_1 11 rfl rfl)
theorem dX4_without_34 : decode cX4_without 34 = .ok (.if_icmp .ge 18, 3) := dk_162 0 18 (dk_at dksX4_without_1 12 rfl rfl)
theorem dX4_without_37 : decode cX4_without 37 = .ok (.aload_n 0, 1) := dk_42 (dk_at dksX4_without_1 15 rfl rfl)
theorem dX4_without_38 : decode cX4_without 38 = .ok (.getfield 39, 3) := dk_180 0 39 (dk_at dksX4_without_1 16 rfl rfl)
theorem dX4_without_41 : decode cX4_without 41 = .ok (.bipush 7, 2) := dk_16 7 (dk_at dksX4_without_1 19 rfl rfl)
theorem dX4_without_43 : decode cX4_without 43 = .ok (.iload_n 1, 1) := dk_27 (dk_at dksX4_without_1 21 rfl rfl)
theorem dX4_without_44 : decode cX4_without 44 = .ok (.imul, 1) := dk_104 (dk_at dksX4_without_1 22 rfl rfl)
theorem dX4_without_45 : decode cX4_without 45 = .ok (.iload 4, 2) := dk_21 4 (dk_at dksX4_without_2 0 rfl rfl)
theorem dX4_without_47 : decode cX4_without 47 = .ok (.iadd, 1) := dk_96 (dk_at dksX4_without_2 2 rfl rfl)
theorem dX4_without_48 : decode cX4_without 48 = .ok (.iaload, 1) := dk_46 (dk_at dksX4_without_2 3 rfl rfl)
theorem dX4_without_49 : decode cX4_without 49 = .ok (.goto 4, 3) := dk_167 0 4 (dk_at dksX4_without_2 4 rfl rfl)
theorem dX4_without_52 : decode cX4_without 52 = .ok (.iload_n 3, 1) := dk_29 (dk_at dksX4_without_2 7 rfl rfl)
theorem dX4_without_53 : decode cX4_without 53 = .ok (.istore_n 3, 1) := dk_62 (dk_at dksX4_without_2 8 rfl rfl)
theorem dX4_without_54 : decode cX4_without 54 = .ok (.iinc 4 1, 3) := dk_132 4 1 (dk_at dksX4_without_2 9 rfl rfl)
theorem dX4_without_57 : decode cX4_without 57 = .ok (.goto (-51), 3) := dk_167 255 205 (dk_at dksX4_without_2 12 rfl rfl)
theorem dX4_without_60 : decode cX4_without 60 = .ok (.iload_n 3, 1) := dk_29 (dk_at dksX4_without_2 15 rfl rfl)
theorem dX4_without_61 : decode cX4_without 61 = .ok (.ireturn, 1) := dk_172 (dk_at dksX4_without_2 16 rfl rfl)
abbrev cX4_minimumIfCost : ByteArray := prog_7_method_54_code
def yX4_minimumIfCost : MethodName := ⟨RX4, "minimumIfCost", "(III)I"⟩
def dkwX4_minimumIfCost_3 : List UInt8 := [180, 0, 7, 182, 0, 111, 42, 180, 0, 80, 172]
abbrev dktX4_minimumIfCost_3 : List UInt8 := dkwX4_minimumIfCost_3 ++ []
def dkwX4_minimumIfCost_2 : List UInt8 := [153, 0, 5, 3, 172, 42, 182, 0, 108, 42, 180, 0, 36, 16, 7, 27, 104, 28, 96, 29, 79, 42, 42]
abbrev dktX4_minimumIfCost_2 : List UInt8 := dkwX4_minimumIfCost_2 ++ dktX4_minimumIfCost_3
def dkwX4_minimumIfCost_1 : List UInt8 := [20, 0, 128, 184, 0, 63, 154, 0, 14, 29, 17, 3, 232, 159, 0, 7, 5, 167, 0, 4, 3, 182, 0, 118]
abbrev dktX4_minimumIfCost_1 : List UInt8 := dkwX4_minimumIfCost_1 ++ dktX4_minimumIfCost_2
def dkwX4_minimumIfCost_0 : List UInt8 := [42, 42, 27, 182, 0, 122, 153, 0, 11, 42, 28, 182, 0, 125, 154, 0, 7, 4, 167, 0, 27, 29, 133, 9]
abbrev dktX4_minimumIfCost_0 : List UInt8 := dkwX4_minimumIfCost_0 ++ dktX4_minimumIfCost_1
theorem dksX4_minimumIfCost_0 : cX4_minimumIfCost.data.toList.drop 0 = dktX4_minimumIfCost_0 := by decide +kernel
theorem dksX4_minimumIfCost_1 : cX4_minimumIfCost.data.toList.drop 24 = dktX4_minimumIfCost_1 := dk_seg dksX4_minimumIfCost_0 24 rfl rfl
theorem dksX4_minimumIfCost_2 : cX4_minimumIfCost.data.toList.drop 48 = dktX4_minimumIfCost_2 := dk_seg dksX4_minimumIfCost_1 24 rfl rfl
theorem dksX4_minimumIfCost_3 : cX4_minimumIfCost.data.toList.drop 71 = dktX4_minimumIfCost_3 := dk_seg dksX4_minimumIfCost_2 23 rfl rfl
theorem dX4_minimumIfCost_0 : decode cX4_minimumIfCost 0 = .ok (.aload_n 0, 1) := dk_42 (dk_at dksX4_minimumIfCost_0 0 rfl rfl)
theorem dX4_minimumIfCost_1 : decode cX4_minimumIfCost 1 = .ok (.aload_n 0, 1) := dk_42 (dk_at dksX4_minimumIfCost_0 1 rfl rfl)
theorem dX4_minimumIfCost_2 : decode cX4_minimumIfCost 2 = .ok (.iload_n 1, 1) := dk_27 (dk_at dksX4_minimumIfCost_0 2 rfl rfl)
theorem dX4_minimumIfCost_3 : decode cX4_minimumIfCost 3 = .ok (.invokevirtual 122, 3) := dk_182 0 122 (dk_at dksX4_minimumIfCost_0 3 rfl rfl)
theorem dX4_minimumIfCost_6 : decode cX4_minimumIfCost 6 = .ok (.ifCond .eq 11, 3) := dk_153 0 11 (dk_at dksX4_minimumIfCost_0 6 rfl rfl)
theorem dX4_minimumIfCost_9 : decode cX4_minimumIfCost 9 = .ok (.aload_n 0, 1) := dk_42 (dk_at dksX4_minimumIfCost_0 9 rfl rfl)
theorem dX4_minimumIfCost_10 : decode cX4_minimumIfCost 10 = .ok (.iload_n 2, 1) := dk_28 (dk_at dksX4_minimumIfCost_0 10 rfl rfl)
theorem dX4_minimumIfCost_11 : decode cX4_minimumIfCost 11 = .ok (.invokevirtual 125, 3) := dk_182 0 125 (dk_at dksX4_minimumIfCost_0 11 rfl rfl)
theorem dX4_minimumIfCost_14 : decode cX4_minimumIfCost 14 = .ok (.ifCond .ne 7, 3) := dk_154 0 7 (dk_at dksX4_minimumIfCost_0 14 rfl rfl)
theorem dX4_minimumIfCost_17 : decode cX4_minimumIfCost 17 = .ok (.iconst 1, 1) := dk_4 (dk_at dksX4_minimumIfCost_0 17 rfl rfl)
theorem dX4_minimumIfCost_18 : decode cX4_minimumIfCost 18 = .ok (.goto 27, 3) := dk_167 0 27 (dk_at dksX4_minimumIfCost_0 18 rfl rfl)
theorem dX4_minimumIfCost_21 : decode cX4_minimumIfCost 21 = .ok (.iload_n 3, 1) := dk_29 (dk_at dksX4_minimumIfCost_0 21 rfl rfl)
theorem dX4_minimumIfCost_22 : decode cX4_minimumIfCost 22 = .ok (.i2l, 1) := dk_133 (dk_at dksX4_minimumIfCost_0 22 rfl rfl)
theorem dX4_minimumIfCost_23 : decode cX4_minimumIfCost 23 = .ok (.lconst 0, 1) := dk_9 (dk_at dksX4_minimumIfCost_0 23 rfl rfl)
theorem dX4_minimumIfCost_24 : decode cX4_minimumIfCost 24 = .ok (.ldc2_w 128, 3) := dk_20 0 128 (dk_at dksX4_minimumIfCost_1 0 rfl rfl)
theorem dX4_minimumIfCost_27 : decode cX4_minimumIfCost 27 = .ok (.invokestatic 63, 3) := dk_184 0 63 (dk_at dksX4_minimumIfCost_1 3 rfl rfl)
theorem dX4_minimumIfCost_30 : decode cX4_minimumIfCost 30 = .ok (.ifCond .ne 14, 3) := dk_154 0 14 (dk_at dksX4_minimumIfCost_1 6 rfl rfl)
theorem dX4_minimumIfCost_33 : decode cX4_minimumIfCost 33 = .ok (.iload_n 3, 1) := dk_29 (dk_at dksX4_minimumIfCost_1 9 rfl rfl)
theorem dX4_minimumIfCost_34 : decode cX4_minimumIfCost 34 = .ok (.sipush 1000, 3) := dk_17 3 232 (dk_at dksX4_minimumIfCost_1 10 rfl rfl)
theorem dX4_minimumIfCost_37 : decode cX4_minimumIfCost 37 = .ok (.if_icmp .eq 7, 3) := dk_159 0 7 (dk_at dksX4_minimumIfCost_1 13 rfl rfl)
theorem dX4_minimumIfCost_40 : decode cX4_minimumIfCost 40 = .ok (.iconst 2, 1) := dk_5 (dk_at dksX4_minimumIfCost_1 16 rfl rfl)
theorem dX4_minimumIfCost_41 : decode cX4_minimumIfCost 41 = .ok (.goto 4, 3) := dk_167 0 4 (dk_at dksX4_minimumIfCost_1 17 rfl rfl)
theorem dX4_minimumIfCost_44 : decode cX4_minimumIfCost 44 = .ok (.iconst 0, 1) := dk_3 (dk_at dksX4_minimumIfCost_1 20 rfl rfl)
theorem dX4_minimumIfCost_45 : decode cX4_minimumIfCost 45 = .ok (.invokevirtual 118, 3) := dk_182 0 118 (dk_at dksX4_minimumIfCost_1 21 rfl rfl)
theorem dX4_minimumIfCost_48 : decode cX4_minimumIfCost 48 = .ok (.ifCond .eq 5, 3) := dk_153 0 5 (dk_at dksX4_minimumIfCost_2 0 rfl rfl)
theorem dX4_minimumIfCost_51 : decode cX4_minimumIfCost 51 = .ok (.iconst 0, 1) := dk_3 (dk_at dksX4_minimumIfCost_2 3 rfl rfl)
theorem dX4_minimumIfCost_52 : decode cX4_minimumIfCost 52 = .ok (.ireturn, 1) := dk_172 (dk_at dksX4_minimumIfCost_2 4 rfl rfl)
theorem dX4_minimumIfCost_53 : decode cX4_minimumIfCost 53 = .ok (.aload_n 0, 1) := dk_42 (dk_at dksX4_minimumIfCost_2 5 rfl rfl)
theorem dX4_minimumIfCost_54 : decode cX4_minimumIfCost 54 = .ok (.invokevirtual 108, 3) := dk_182 0 108 (dk_at dksX4_minimumIfCost_2 6 rfl rfl)
theorem dX4_minimumIfCost_57 : decode cX4_minimumIfCost 57 = .ok (.aload_n 0, 1) := dk_42 (dk_at dksX4_minimumIfCost_2 9 rfl rfl)
theorem dX4_minimumIfCost_58 : decode cX4_minimumIfCost 58 = .ok (.getfield 36, 3) := dk_180 0 36 (dk_at dksX4_minimumIfCost_2 10 rfl rfl)
theorem dX4_minimumIfCost_61 : decode cX4_minimumIfCost 61 = .ok (.bipush 7, 2) := dk_16 7 (dk_at dksX4_minimumIfCost_2 13 rfl rfl)
theorem dX4_minimumIfCost_63 : decode cX4_minimumIfCost 63 = .ok (.iload_n 1, 1) := dk_27 (dk_at dksX4_minimumIfCost_2 15 rfl rfl)
theorem dX4_minimumIfCost_64 : decode cX4_minimumIfCost 64 = .ok (.imul, 1) := dk_104 (dk_at dksX4_minimumIfCost_2 16 rfl rfl)
theorem dX4_minimumIfCost_65 : decode cX4_minimumIfCost 65 = .ok (.iload_n 2, 1) := dk_28 (dk_at dksX4_minimumIfCost_2 17 rfl rfl)
theorem dX4_minimumIfCost_66 : decode cX4_minimumIfCost 66 = .ok (.iadd, 1) := dk_96 (dk_at dksX4_minimumIfCost_2 18 rfl rfl)
theorem dX4_minimumIfCost_67 : decode cX4_minimumIfCost 67 = .ok (.iload_n 3, 1) := dk_29 (dk_at dksX4_minimumIfCost_2 19 rfl rfl)
theorem dX4_minimumIfCost_68 : decode cX4_minimumIfCost 68 = .ok (.iastore, 1) := dk_79 (dk_at dksX4_minimumIfCost_2 20 rfl rfl)
theorem dX4_minimumIfCost_69 : decode cX4_minimumIfCost 69 = .ok (.aload_n 0, 1) := dk_42 (dk_at dksX4_minimumIfCost_2 21 rfl rfl)
theorem dX4_minimumIfCost_70 : decode cX4_minimumIfCost 70 = .ok (.aload_n 0, 1) := dk_42 (dk_at dksX4_minimumIfCost_2 22 rfl rfl)
theorem dX4_minimumIfCost_71 : decode cX4_minimumIfCost 71 = .ok (.getfield 7, 3) := dk_180 0 7 (dk_at dksX4_minimumIfCost_3 0 rfl rfl)
theorem dX4_minimumIfCost_74 : decode cX4_minimumIfCost 74 = .ok (.invokevirtual 111, 3) := dk_182 0 111 (dk_at dksX4_minimumIfCost_3 3 rfl rfl)
theorem dX4_minimumIfCost_77 : decode cX4_minimumIfCost 77 = .ok (.aload_n 0, 1) := dk_42 (dk_at dksX4_minimumIfCost_3 6 rfl rfl)
theorem dX4_minimumIfCost_78 : decode cX4_minimumIfCost 78 = .ok (.getfield 80, 3) := dk_180 0 80 (dk_at dksX4_minimumIfCost_3 7 rfl rfl)
theorem dX4_minimumIfCost_81 : decode cX4_minimumIfCost 81 = .ok (.ireturn, 1) := dk_172 (dk_at dksX4_minimumIfCost_3 10 rfl rfl)
abbrev cX4_secondBest : ByteArray := prog_7_method_55_code
def yX4_secondBest : MethodName := ⟨RX4, "secondBest", "()I"⟩
def dkwX4_secondBest_0 : List UInt8 := [42, 182, 0, 114, 42, 180, 0, 7, 4, 160, 0, 7, 2, 167, 0, 7, 42, 180, 0, 86, 172]
abbrev dktX4_secondBest_0 : List UInt8 := dkwX4_secondBest_0 ++ []
theorem dksX4_secondBest_0 : cX4_secondBest.data.toList.drop 0 = dktX4_secondBest_0 := by decide +kernel
theorem dX4_secondBest_0 : decode cX4_secondBest 0 = .ok (.aload_n 0, 1) := dk_42 (dk_at dksX4_secondBest_0 0 rfl rfl)
theorem dX4_secondBest_1 : decode cX4_secondBest 1 = .ok (.invokevirtual 114, 3) := dk_182 0 114 (dk_at dksX4_secondBest_0 1 rfl rfl)
theorem dX4_secondBest_4 : decode cX4_secondBest 4 = .ok (.aload_n 0, 1) := dk_42 (dk_at dksX4_secondBest_0 4 rfl rfl)
theorem dX4_secondBest_5 : decode cX4_secondBest 5 = .ok (.getfield 7, 3) := dk_180 0 7 (dk_at dksX4_secondBest_0 5 rfl rfl)
theorem dX4_secondBest_8 : decode cX4_secondBest 8 = .ok (.iconst 1, 1) := dk_4 (dk_at dksX4_secondBest_0 8 rfl rfl)
theorem dX4_secondBest_9 : decode cX4_secondBest 9 = .ok (.if_icmp .ne 7, 3) := dk_160 0 7 (dk_at dksX4_secondBest_0 9 rfl rfl)
theorem dX4_secondBest_12 : decode cX4_secondBest 12 = .ok (.iconst (-1), 1) := dk_2 (dk_at dksX4_secondBest_0 12 rfl rfl)
theorem dX4_secondBest_13 : decode cX4_secondBest 13 = .ok (.goto 7, 3) := dk_167 0 7 (dk_at dksX4_secondBest_0 13 rfl rfl)
theorem dX4_secondBest_16 : decode cX4_secondBest 16 = .ok (.aload_n 0, 1) := dk_42 (dk_at dksX4_secondBest_0 16 rfl rfl)
theorem dX4_secondBest_17 : decode cX4_secondBest 17 = .ok (.getfield 86, 3) := dk_180 0 86 (dk_at dksX4_secondBest_0 17 rfl rfl)
theorem dX4_secondBest_20 : decode cX4_secondBest 20 = .ok (.ireturn, 1) := dk_172 (dk_at dksX4_secondBest_0 20 rfl rfl)
abbrev cX4_maximum : ByteArray := prog_7_method_56_code
def yX4_maximum : MethodName := ⟨RX4, "maximum", "()I"⟩
def dkwX4_maximum_0 : List UInt8 := [42, 182, 0, 114, 42, 180, 0, 89, 172]
abbrev dktX4_maximum_0 : List UInt8 := dkwX4_maximum_0 ++ []
theorem dksX4_maximum_0 : cX4_maximum.data.toList.drop 0 = dktX4_maximum_0 := by decide +kernel
theorem dX4_maximum_0 : decode cX4_maximum 0 = .ok (.aload_n 0, 1) := dk_42 (dk_at dksX4_maximum_0 0 rfl rfl)
theorem dX4_maximum_1 : decode cX4_maximum 1 = .ok (.invokevirtual 114, 3) := dk_182 0 114 (dk_at dksX4_maximum_0 1 rfl rfl)
theorem dX4_maximum_4 : decode cX4_maximum 4 = .ok (.aload_n 0, 1) := dk_42 (dk_at dksX4_maximum_0 4 rfl rfl)
theorem dX4_maximum_5 : decode cX4_maximum 5 = .ok (.getfield 89, 3) := dk_180 0 89 (dk_at dksX4_maximum_0 5 rfl rfl)
theorem dX4_maximum_8 : decode cX4_maximum 8 = .ok (.ireturn, 1) := dk_172 (dk_at dksX4_maximum_0 8 rfl rfl)
abbrev cX4_bottleneck : ByteArray := prog_7_method_57_code
def yX4_bottleneck : MethodName := ⟨RX4, "bottleneck", "()I"⟩
def dkwX4_bottleneck_0 : List UInt8 := [42, 182, 0, 114, 42, 180, 0, 92, 172]
abbrev dktX4_bottleneck_0 : List UInt8 := dkwX4_bottleneck_0 ++ []
theorem dksX4_bottleneck_0 : cX4_bottleneck.data.toList.drop 0 = dktX4_bottleneck_0 := by decide +kernel
theorem dX4_bottleneck_0 : decode cX4_bottleneck 0 = .ok (.aload_n 0, 1) := dk_42 (dk_at dksX4_bottleneck_0 0 rfl rfl)
theorem dX4_bottleneck_1 : decode cX4_bottleneck 1 = .ok (.invokevirtual 114, 3) := dk_182 0 114 (dk_at dksX4_bottleneck_0 1 rfl rfl)
theorem dX4_bottleneck_4 : decode cX4_bottleneck 4 = .ok (.aload_n 0, 1) := dk_42 (dk_at dksX4_bottleneck_0 4 rfl rfl)
theorem dX4_bottleneck_5 : decode cX4_bottleneck 5 = .ok (.getfield 92, 3) := dk_180 0 92 (dk_at dksX4_bottleneck_0 5 rfl rfl)
theorem dX4_bottleneck_8 : decode cX4_bottleneck 8 = .ok (.ireturn, 1) := dk_172 (dk_at dksX4_bottleneck_0 8 rfl rfl)
abbrev cX4_fits : ByteArray := prog_7_method_58_code
def yX4_fits : MethodName := ⟨RX4, "fits", "(I)Z"⟩
def dkwX4_fits_1 : List UInt8 := [3, 172, 42, 182, 0, 114, 42, 180, 0, 92, 27, 163, 0, 7, 4, 167, 0, 4, 3, 172]
abbrev dktX4_fits_1 : List UInt8 := dkwX4_fits_1 ++ []
def dkwX4_fits_0 : List UInt8 := [42, 27, 133, 9, 20, 0, 168, 184, 0, 63, 153, 0, 7, 3, 167, 0, 4, 4, 182, 0, 118, 153, 0, 5]
abbrev dktX4_fits_0 : List UInt8 := dkwX4_fits_0 ++ dktX4_fits_1
theorem dksX4_fits_0 : cX4_fits.data.toList.drop 0 = dktX4_fits_0 := by decide +kernel
theorem dksX4_fits_1 : cX4_fits.data.toList.drop 24 = dktX4_fits_1 := dk_seg dksX4_fits_0 24 rfl rfl
theorem dX4_fits_0 : decode cX4_fits 0 = .ok (.aload_n 0, 1) := dk_42 (dk_at dksX4_fits_0 0 rfl rfl)
theorem dX4_fits_1 : decode cX4_fits 1 = .ok (.iload_n 1, 1) := dk_27 (dk_at dksX4_fits_0 1 rfl rfl)
theorem dX4_fits_2 : decode cX4_fits 2 = .ok (.i2l, 1) := dk_133 (dk_at dksX4_fits_0 2 rfl rfl)
theorem dX4_fits_3 : decode cX4_fits 3 = .ok (.lconst 0, 1) := dk_9 (dk_at dksX4_fits_0 3 rfl rfl)
theorem dX4_fits_4 : decode cX4_fits 4 = .ok (.ldc2_w 168, 3) := dk_20 0 168 (dk_at dksX4_fits_0 4 rfl rfl)
theorem dX4_fits_7 : decode cX4_fits 7 = .ok (.invokestatic 63, 3) := dk_184 0 63 (dk_at dksX4_fits_0 7 rfl rfl)
theorem dX4_fits_10 : decode cX4_fits 10 = .ok (.ifCond .eq 7, 3) := dk_153 0 7 (dk_at dksX4_fits_0 10 rfl rfl)
theorem dX4_fits_13 : decode cX4_fits 13 = .ok (.iconst 0, 1) := dk_3 (dk_at dksX4_fits_0 13 rfl rfl)
theorem dX4_fits_14 : decode cX4_fits 14 = .ok (.goto 4, 3) := dk_167 0 4 (dk_at dksX4_fits_0 14 rfl rfl)
theorem dX4_fits_17 : decode cX4_fits 17 = .ok (.iconst 1, 1) := dk_4 (dk_at dksX4_fits_0 17 rfl rfl)
theorem dX4_fits_18 : decode cX4_fits 18 = .ok (.invokevirtual 118, 3) := dk_182 0 118 (dk_at dksX4_fits_0 18 rfl rfl)
theorem dX4_fits_21 : decode cX4_fits 21 = .ok (.ifCond .eq 5, 3) := dk_153 0 5 (dk_at dksX4_fits_0 21 rfl rfl)
theorem dX4_fits_24 : decode cX4_fits 24 = .ok (.iconst 0, 1) := dk_3 (dk_at dksX4_fits_1 0 rfl rfl)
theorem dX4_fits_25 : decode cX4_fits 25 = .ok (.ireturn, 1) := dk_172 (dk_at dksX4_fits_1 1 rfl rfl)
theorem dX4_fits_26 : decode cX4_fits 26 = .ok (.aload_n 0, 1) := dk_42 (dk_at dksX4_fits_1 2 rfl rfl)
theorem dX4_fits_27 : decode cX4_fits 27 = .ok (.invokevirtual 114, 3) := dk_182 0 114 (dk_at dksX4_fits_1 3 rfl rfl)
theorem dX4_fits_30 : decode cX4_fits 30 = .ok (.aload_n 0, 1) := dk_42 (dk_at dksX4_fits_1 6 rfl rfl)
theorem dX4_fits_31 : decode cX4_fits 31 = .ok (.getfield 92, 3) := dk_180 0 92 (dk_at dksX4_fits_1 7 rfl rfl)
theorem dX4_fits_34 : decode cX4_fits 34 = .ok (.iload_n 1, 1) := dk_27 (dk_at dksX4_fits_1 10 rfl rfl)
theorem dX4_fits_35 : decode cX4_fits 35 = .ok (.if_icmp .gt 7, 3) := dk_163 0 7 (dk_at dksX4_fits_1 11 rfl rfl)
theorem dX4_fits_38 : decode cX4_fits 38 = .ok (.iconst 1, 1) := dk_4 (dk_at dksX4_fits_1 14 rfl rfl)
theorem dX4_fits_39 : decode cX4_fits 39 = .ok (.goto 4, 3) := dk_167 0 4 (dk_at dksX4_fits_1 15 rfl rfl)
theorem dX4_fits_42 : decode cX4_fits 42 = .ok (.iconst 0, 1) := dk_3 (dk_at dksX4_fits_1 18 rfl rfl)
theorem dX4_fits_43 : decode cX4_fits 43 = .ok (.ireturn, 1) := dk_172 (dk_at dksX4_fits_1 19 rfl rfl)
abbrev cX4_countWithin : ByteArray := prog_7_method_59_code
def yX4_countWithin : MethodName := ⟨RX4, "countWithin", "(I)I"⟩
def dkwX4_countWithin_3 : List UInt8 := [180, 0, 7, 182, 0, 104, 132, 3, 255, 167, 255, 221, 28, 172]
abbrev dktX4_countWithin_3 : List UInt8 := dkwX4_countWithin_3 ++ []
def dkwX4_countWithin_2 : List UInt8 := [28, 42, 42, 180, 0, 7, 182, 0, 98, 27, 163, 0, 7, 4, 167, 0, 4, 3, 96, 61, 42, 42]
abbrev dktX4_countWithin_2 : List UInt8 := dkwX4_countWithin_2 ++ dktX4_countWithin_3
def dkwX4_countWithin_1 : List UInt8 := [3, 172, 42, 182, 0, 108, 42, 182, 0, 95, 3, 61, 42, 180, 0, 7, 184, 0, 67, 62, 29, 158, 0, 37]
abbrev dktX4_countWithin_1 : List UInt8 := dkwX4_countWithin_1 ++ dktX4_countWithin_2
def dkwX4_countWithin_0 : List UInt8 := [42, 27, 133, 9, 20, 0, 170, 184, 0, 63, 153, 0, 7, 3, 167, 0, 4, 4, 182, 0, 118, 153, 0, 5]
abbrev dktX4_countWithin_0 : List UInt8 := dkwX4_countWithin_0 ++ dktX4_countWithin_1
theorem dksX4_countWithin_0 : cX4_countWithin.data.toList.drop 0 = dktX4_countWithin_0 := by decide +kernel
theorem dksX4_countWithin_1 : cX4_countWithin.data.toList.drop 24 = dktX4_countWithin_1 := dk_seg dksX4_countWithin_0 24 rfl rfl
theorem dksX4_countWithin_2 : cX4_countWithin.data.toList.drop 48 = dktX4_countWithin_2 := dk_seg dksX4_countWithin_1 24 rfl rfl
theorem dksX4_countWithin_3 : cX4_countWithin.data.toList.drop 70 = dktX4_countWithin_3 := dk_seg dksX4_countWithin_2 22 rfl rfl
theorem dX4_countWithin_0 : decode cX4_countWithin 0 = .ok (.aload_n 0, 1) := dk_42 (dk_at dksX4_countWithin_0 0 rfl rfl)
theorem dX4_countWithin_1 : decode cX4_countWithin 1 = .ok (.iload_n 1, 1) := dk_27 (dk_at dksX4_countWithin_0 1 rfl rfl)
theorem dX4_countWithin_2 : decode cX4_countWithin 2 = .ok (.i2l, 1) := dk_133 (dk_at dksX4_countWithin_0 2 rfl rfl)
theorem dX4_countWithin_3 : decode cX4_countWithin 3 = .ok (.lconst 0, 1) := dk_9 (dk_at dksX4_countWithin_0 3 rfl rfl)
theorem dX4_countWithin_4 : decode cX4_countWithin 4 = .ok (.ldc2_w 170, 3) := dk_20 0 170 (dk_at dksX4_countWithin_0 4 rfl rfl)
theorem dX4_countWithin_7 : decode cX4_countWithin 7 = .ok (.invokestatic 63, 3) := dk_184 0 63 (dk_at dksX4_countWithin_0 7 rfl rfl)
theorem dX4_countWithin_10 : decode cX4_countWithin 10 = .ok (.ifCond .eq 7, 3) := dk_153 0 7 (dk_at dksX4_countWithin_0 10 rfl rfl)
theorem dX4_countWithin_13 : decode cX4_countWithin 13 = .ok (.iconst 0, 1) := dk_3 (dk_at dksX4_countWithin_0 13 rfl rfl)
theorem dX4_countWithin_14 : decode cX4_countWithin 14 = .ok (.goto 4, 3) := dk_167 0 4 (dk_at dksX4_countWithin_0 14 rfl rfl)
theorem dX4_countWithin_17 : decode cX4_countWithin 17 = .ok (.iconst 1, 1) := dk_4 (dk_at dksX4_countWithin_0 17 rfl rfl)
theorem dX4_countWithin_18 : decode cX4_countWithin 18 = .ok (.invokevirtual 118, 3) := dk_182 0 118 (dk_at dksX4_countWithin_0 18 rfl rfl)
theorem dX4_countWithin_21 : decode cX4_countWithin 21 = .ok (.ifCond .eq 5, 3) := dk_153 0 5 (dk_at dksX4_countWithin_0 21 rfl rfl)
theorem dX4_countWithin_24 : decode cX4_countWithin 24 = .ok (.iconst 0, 1) := dk_3 (dk_at dksX4_countWithin_1 0 rfl rfl)
theorem dX4_countWithin_25 : decode cX4_countWithin 25 = .ok (.ireturn, 1) := dk_172 (dk_at dksX4_countWithin_1 1 rfl rfl)
theorem dX4_countWithin_26 : decode cX4_countWithin 26 = .ok (.aload_n 0, 1) := dk_42 (dk_at dksX4_countWithin_1 2 rfl rfl)
theorem dX4_countWithin_27 : decode cX4_countWithin 27 = .ok (.invokevirtual 108, 3) := dk_182 0 108 (dk_at dksX4_countWithin_1 3 rfl rfl)
theorem dX4_countWithin_30 : decode cX4_countWithin 30 = .ok (.aload_n 0, 1) := dk_42 (dk_at dksX4_countWithin_1 6 rfl rfl)
theorem dX4_countWithin_31 : decode cX4_countWithin 31 = .ok (.invokevirtual 95, 3) := dk_182 0 95 (dk_at dksX4_countWithin_1 7 rfl rfl)
theorem dX4_countWithin_34 : decode cX4_countWithin 34 = .ok (.iconst 0, 1) := dk_3 (dk_at dksX4_countWithin_1 10 rfl rfl)
theorem dX4_countWithin_35 : decode cX4_countWithin 35 = .ok (.istore_n 2, 1) := dk_61 (dk_at dksX4_countWithin_1 11 rfl rfl)
theorem dX4_countWithin_36 : decode cX4_countWithin 36 = .ok (.aload_n 0, 1) := dk_42 (dk_at dksX4_countWithin_1 12 rfl rfl)
theorem dX4_countWithin_37 : decode cX4_countWithin 37 = .ok (.getfield 7, 3) := dk_180 0 7 (dk_at dksX4_countWithin_1 13 rfl rfl)
theorem dX4_countWithin_40 : decode cX4_countWithin 40 = .ok (.invokestatic 67, 3) := dk_184 0 67 (dk_at dksX4_countWithin_1 16 rfl rfl)
theorem dX4_countWithin_43 : decode cX4_countWithin 43 = .ok (.istore_n 3, 1) := dk_62 (dk_at dksX4_countWithin_1 19 rfl rfl)
theorem dX4_countWithin_44 : decode cX4_countWithin 44 = .ok (.iload_n 3, 1) := dk_29 (dk_at dksX4_countWithin_1 20 rfl rfl)
theorem dX4_countWithin_45 : decode cX4_countWithin 45 = .ok (.ifCond .le 37, 3) := dk_158 0 37 (dk_at dksX4_countWithin_1 21 rfl rfl)
theorem dX4_countWithin_48 : decode cX4_countWithin 48 = .ok (.iload_n 2, 1) := dk_28 (dk_at dksX4_countWithin_2 0 rfl rfl)
theorem dX4_countWithin_49 : decode cX4_countWithin 49 = .ok (.aload_n 0, 1) := dk_42 (dk_at dksX4_countWithin_2 1 rfl rfl)
theorem dX4_countWithin_50 : decode cX4_countWithin 50 = .ok (.aload_n 0, 1) := dk_42 (dk_at dksX4_countWithin_2 2 rfl rfl)
theorem dX4_countWithin_51 : decode cX4_countWithin 51 = .ok (.getfield 7, 3) := dk_180 0 7 (dk_at dksX4_countWithin_2 3 rfl rfl)
theorem dX4_countWithin_54 : decode cX4_countWithin 54 = .ok (.invokevirtual 98, 3) := dk_182 0 98 (dk_at dksX4_countWithin_2 6 rfl rfl)
theorem dX4_countWithin_57 : decode cX4_countWithin 57 = .ok (.iload_n 1, 1) := dk_27 (dk_at dksX4_countWithin_2 9 rfl rfl)
theorem dX4_countWithin_58 : decode cX4_countWithin 58 = .ok (.if_icmp .gt 7, 3) := dk_163 0 7 (dk_at dksX4_countWithin_2 10 rfl rfl)
theorem dX4_countWithin_61 : decode cX4_countWithin 61 = .ok (.iconst 1, 1) := dk_4 (dk_at dksX4_countWithin_2 13 rfl rfl)
theorem dX4_countWithin_62 : decode cX4_countWithin 62 = .ok (.goto 4, 3) := dk_167 0 4 (dk_at dksX4_countWithin_2 14 rfl rfl)
theorem dX4_countWithin_65 : decode cX4_countWithin 65 = .ok (.iconst 0, 1) := dk_3 (dk_at dksX4_countWithin_2 17 rfl rfl)
theorem dX4_countWithin_66 : decode cX4_countWithin 66 = .ok (.iadd, 1) := dk_96 (dk_at dksX4_countWithin_2 18 rfl rfl)
theorem dX4_countWithin_67 : decode cX4_countWithin 67 = .ok (.istore_n 2, 1) := dk_61 (dk_at dksX4_countWithin_2 19 rfl rfl)
theorem dX4_countWithin_68 : decode cX4_countWithin 68 = .ok (.aload_n 0, 1) := dk_42 (dk_at dksX4_countWithin_2 20 rfl rfl)
theorem dX4_countWithin_69 : decode cX4_countWithin 69 = .ok (.aload_n 0, 1) := dk_42 (dk_at dksX4_countWithin_2 21 rfl rfl)
theorem dX4_countWithin_70 : decode cX4_countWithin 70 = .ok (.getfield 7, 3) := dk_180 0 7 (dk_at dksX4_countWithin_3 0 rfl rfl)
theorem dX4_countWithin_73 : decode cX4_countWithin 73 = .ok (.invokevirtual 104, 3) := dk_182 0 104 (dk_at dksX4_countWithin_3 3 rfl rfl)
theorem dX4_countWithin_76 : decode cX4_countWithin 76 = .ok (.iinc 3 (-1), 3) := dk_132 3 255 (dk_at dksX4_countWithin_3 6 rfl rfl)
theorem dX4_countWithin_79 : decode cX4_countWithin 79 = .ok (.goto (-35), 3) := dk_167 255 221 (dk_at dksX4_countWithin_3 9 rfl rfl)
theorem dX4_countWithin_82 : decode cX4_countWithin 82 = .ok (.iload_n 2, 1) := dk_28 (dk_at dksX4_countWithin_3 12 rfl rfl)
theorem dX4_countWithin_83 : decode cX4_countWithin 83 = .ok (.ireturn, 1) := dk_172 (dk_at dksX4_countWithin_3 13 rfl rfl)
abbrev cX4_sumOf : ByteArray := prog_7_method_60_code
def yX4_sumOf : MethodName := ⟨RX4, "sumOf", "(I)I"⟩
def dkwX4_sumOf_4 : List UInt8 := [167, 0, 4, 3, 182, 0, 118, 153, 0, 7, 3, 167, 0, 5, 21, 4, 172]
abbrev dktX4_sumOf_4 : List UInt8 := dkwX4_sumOf_4 ++ []
def dkwX4_sumOf_3 : List UInt8 := [21, 5, 21, 6, 182, 0, 75, 96, 54, 4, 132, 5, 255, 167, 255, 187, 42, 28, 153, 0, 7, 4]
abbrev dktX4_sumOf_3 : List UInt8 := dkwX4_sumOf_3 ++ dktX4_sumOf_4
def dkwX4_sumOf_2 : List UInt8 := [4, 160, 0, 5, 2, 61, 28, 156, 0, 6, 167, 0, 29, 29, 4, 21, 6, 120, 128, 62, 21, 4, 42]
abbrev dktX4_sumOf_2 : List UInt8 := dkwX4_sumOf_2 ++ dktX4_sumOf_3
def dkwX4_sumOf_1 : List UInt8 := [4, 100, 54, 6, 28, 16, 10, 108, 61, 42, 21, 6, 182, 0, 122, 153, 0, 13, 29, 21, 6, 122, 4, 126]
abbrev dktX4_sumOf_1 : List UInt8 := dkwX4_sumOf_1 ++ dktX4_sumOf_2
def dkwX4_sumOf_0 : List UInt8 := [27, 61, 3, 62, 3, 54, 4, 42, 180, 0, 7, 4, 100, 54, 5, 21, 5, 155, 0, 70, 28, 16, 10, 112]
abbrev dktX4_sumOf_0 : List UInt8 := dkwX4_sumOf_0 ++ dktX4_sumOf_1
theorem dksX4_sumOf_0 : cX4_sumOf.data.toList.drop 0 = dktX4_sumOf_0 := by decide +kernel
theorem dksX4_sumOf_1 : cX4_sumOf.data.toList.drop 24 = dktX4_sumOf_1 := dk_seg dksX4_sumOf_0 24 rfl rfl
theorem dksX4_sumOf_2 : cX4_sumOf.data.toList.drop 48 = dktX4_sumOf_2 := dk_seg dksX4_sumOf_1 24 rfl rfl
theorem dksX4_sumOf_3 : cX4_sumOf.data.toList.drop 71 = dktX4_sumOf_3 := dk_seg dksX4_sumOf_2 23 rfl rfl
theorem dksX4_sumOf_4 : cX4_sumOf.data.toList.drop 93 = dktX4_sumOf_4 := dk_seg dksX4_sumOf_3 22 rfl rfl
theorem dX4_sumOf_0 : decode cX4_sumOf 0 = .ok (.iload_n 1, 1) := dk_27 (dk_at dksX4_sumOf_0 0 rfl rfl)
theorem dX4_sumOf_1 : decode cX4_sumOf 1 = .ok (.istore_n 2, 1) := dk_61 (dk_at dksX4_sumOf_0 1 rfl rfl)
theorem dX4_sumOf_2 : decode cX4_sumOf 2 = .ok (.iconst 0, 1) := dk_3 (dk_at dksX4_sumOf_0 2 rfl rfl)
theorem dX4_sumOf_3 : decode cX4_sumOf 3 = .ok (.istore_n 3, 1) := dk_62 (dk_at dksX4_sumOf_0 3 rfl rfl)
theorem dX4_sumOf_4 : decode cX4_sumOf 4 = .ok (.iconst 0, 1) := dk_3 (dk_at dksX4_sumOf_0 4 rfl rfl)
theorem dX4_sumOf_5 : decode cX4_sumOf 5 = .ok (.istore 4, 2) := dk_54 4 (dk_at dksX4_sumOf_0 5 rfl rfl)
theorem dX4_sumOf_7 : decode cX4_sumOf 7 = .ok (.aload_n 0, 1) := dk_42 (dk_at dksX4_sumOf_0 7 rfl rfl)
theorem dX4_sumOf_8 : decode cX4_sumOf 8 = .ok (.getfield 7, 3) := dk_180 0 7 (dk_at dksX4_sumOf_0 8 rfl rfl)
theorem dX4_sumOf_11 : decode cX4_sumOf 11 = .ok (.iconst 1, 1) := dk_4 (dk_at dksX4_sumOf_0 11 rfl rfl)
theorem dX4_sumOf_12 : decode cX4_sumOf 12 = .ok (.isub, 1) := dk_100 (dk_at dksX4_sumOf_0 12 rfl rfl)
theorem dX4_sumOf_13 : decode cX4_sumOf 13 = .ok (.istore 5, 2) := dk_54 5 (dk_at dksX4_sumOf_0 13 rfl rfl)
theorem dX4_sumOf_15 : decode cX4_sumOf 15 = .ok (.iload 5, 2) := dk_21 5 (dk_at dksX4_sumOf_0 15 rfl rfl)
theorem dX4_sumOf_17 : decode cX4_sumOf 17 = .ok (.ifCond .lt 70, 3) := dk_155 0 70 (dk_at dksX4_sumOf_0 17 rfl rfl)
theorem dX4_sumOf_20 : decode cX4_sumOf 20 = .ok (.iload_n 2, 1) := dk_28 (dk_at dksX4_sumOf_0 20 rfl rfl)
theorem dX4_sumOf_21 : decode cX4_sumOf 21 = .ok (.bipush 10, 2) := dk_16 10 (dk_at dksX4_sumOf_0 21 rfl rfl)
theorem dX4_sumOf_23 : decode cX4_sumOf 23 = .ok (.irem, 1) := dk_112 (dk_at dksX4_sumOf_0 23 rfl rfl)
theorem dX4_sumOf_24 : decode cX4_sumOf 24 = .ok (.iconst 1, 1) := dk_4 (dk_at dksX4_sumOf_1 0 rfl rfl)
theorem dX4_sumOf_25 : decode cX4_sumOf 25 = .ok (.isub, 1) := dk_100 (dk_at dksX4_sumOf_1 1 rfl rfl)
theorem dX4_sumOf_26 : decode cX4_sumOf 26 = .ok (.istore 6, 2) := dk_54 6 (dk_at dksX4_sumOf_1 2 rfl rfl)
theorem dX4_sumOf_28 : decode cX4_sumOf 28 = .ok (.iload_n 2, 1) := dk_28 (dk_at dksX4_sumOf_1 4 rfl rfl)
theorem dX4_sumOf_29 : decode cX4_sumOf 29 = .ok (.bipush 10, 2) := dk_16 10 (dk_at dksX4_sumOf_1 5 rfl rfl)
theorem dX4_sumOf_31 : decode cX4_sumOf 31 = .ok (.idiv, 1) := dk_108 (dk_at dksX4_sumOf_1 7 rfl rfl)
theorem dX4_sumOf_32 : decode cX4_sumOf 32 = .ok (.istore_n 2, 1) := dk_61 (dk_at dksX4_sumOf_1 8 rfl rfl)
theorem dX4_sumOf_33 : decode cX4_sumOf 33 = .ok (.aload_n 0, 1) := dk_42 (dk_at dksX4_sumOf_1 9 rfl rfl)
theorem dX4_sumOf_34 : decode cX4_sumOf 34 = .ok (.iload 6, 2) := dk_21 6 (dk_at dksX4_sumOf_1 10 rfl rfl)
theorem dX4_sumOf_36 : decode cX4_sumOf 36 = .ok (.invokevirtual 122, 3) := dk_182 0 122 (dk_at dksX4_sumOf_1 12 rfl rfl)
theorem dX4_sumOf_39 : decode cX4_sumOf 39 = .ok (.ifCond .eq 13, 3) := dk_153 0 13 (dk_at dksX4_sumOf_1 15 rfl rfl)
theorem dX4_sumOf_42 : decode cX4_sumOf 42 = .ok (.iload_n 3, 1) := dk_29 (dk_at dksX4_sumOf_1 18 rfl rfl)
theorem dX4_sumOf_43 : decode cX4_sumOf 43 = .ok (.iload 6, 2) := dk_21 6 (dk_at dksX4_sumOf_1 19 rfl rfl)
theorem dX4_sumOf_45 : decode cX4_sumOf 45 = .ok (.ishr, 1) := dk_122 (dk_at dksX4_sumOf_1 21 rfl rfl)
theorem dX4_sumOf_46 : decode cX4_sumOf 46 = .ok (.iconst 1, 1) := dk_4 (dk_at dksX4_sumOf_1 22 rfl rfl)
theorem dX4_sumOf_47 : decode cX4_sumOf 47 = .ok (.iand, 1) := dk_126 (dk_at dksX4_sumOf_1 23 rfl rfl)
theorem dX4_sumOf_48 : decode cX4_sumOf 48 = .ok (.iconst 1, 1) := dk_4 (dk_at dksX4_sumOf_2 0 rfl rfl)
theorem dX4_sumOf_49 : decode cX4_sumOf 49 = .ok (.if_icmp .ne 5, 3) := dk_160 0 5 (dk_at dksX4_sumOf_2 1 rfl rfl)
theorem dX4_sumOf_52 : decode cX4_sumOf 52 = .ok (.iconst (-1), 1) := dk_2 (dk_at dksX4_sumOf_2 4 rfl rfl)
theorem dX4_sumOf_53 : decode cX4_sumOf 53 = .ok (.istore_n 2, 1) := dk_61 (dk_at dksX4_sumOf_2 5 rfl rfl)
theorem dX4_sumOf_54 : decode cX4_sumOf 54 = .ok (.iload_n 2, 1) := dk_28 (dk_at dksX4_sumOf_2 6 rfl rfl)
theorem dX4_sumOf_55 : decode cX4_sumOf 55 = .ok (.ifCond .ge 6, 3) := dk_156 0 6 (dk_at dksX4_sumOf_2 7 rfl rfl)
theorem dX4_sumOf_58 : decode cX4_sumOf 58 = .ok (.goto 29, 3) := dk_167 0 29 (dk_at dksX4_sumOf_2 10 rfl rfl)
theorem dX4_sumOf_61 : decode cX4_sumOf 61 = .ok (.iload_n 3, 1) := dk_29 (dk_at dksX4_sumOf_2 13 rfl rfl)
theorem dX4_sumOf_62 : decode cX4_sumOf 62 = .ok (.iconst 1, 1) := dk_4 (dk_at dksX4_sumOf_2 14 rfl rfl)
theorem dX4_sumOf_63 : decode cX4_sumOf 63 = .ok (.iload 6, 2) := dk_21 6 (dk_at dksX4_sumOf_2 15 rfl rfl)
theorem dX4_sumOf_65 : decode cX4_sumOf 65 = .ok (.ishl, 1) := dk_120 (dk_at dksX4_sumOf_2 17 rfl rfl)
theorem dX4_sumOf_66 : decode cX4_sumOf 66 = .ok (.ior, 1) := dk_128 (dk_at dksX4_sumOf_2 18 rfl rfl)
theorem dX4_sumOf_67 : decode cX4_sumOf 67 = .ok (.istore_n 3, 1) := dk_62 (dk_at dksX4_sumOf_2 19 rfl rfl)
theorem dX4_sumOf_68 : decode cX4_sumOf 68 = .ok (.iload 4, 2) := dk_21 4 (dk_at dksX4_sumOf_2 20 rfl rfl)
theorem dX4_sumOf_70 : decode cX4_sumOf 70 = .ok (.aload_n 0, 1) := dk_42 (dk_at dksX4_sumOf_2 22 rfl rfl)
theorem dX4_sumOf_71 : decode cX4_sumOf 71 = .ok (.iload 5, 2) := dk_21 5 (dk_at dksX4_sumOf_3 0 rfl rfl)
theorem dX4_sumOf_73 : decode cX4_sumOf 73 = .ok (.iload 6, 2) := dk_21 6 (dk_at dksX4_sumOf_3 2 rfl rfl)
theorem dX4_sumOf_75 : decode cX4_sumOf 75 = .ok (.invokevirtual 75, 3) := dk_182 0 75 (dk_at dksX4_sumOf_3 4 rfl rfl)
theorem dX4_sumOf_78 : decode cX4_sumOf 78 = .ok (.iadd, 1) := dk_96 (dk_at dksX4_sumOf_3 7 rfl rfl)
theorem dX4_sumOf_79 : decode cX4_sumOf 79 = .ok (.istore 4, 2) := dk_54 4 (dk_at dksX4_sumOf_3 8 rfl rfl)
theorem dX4_sumOf_81 : decode cX4_sumOf 81 = .ok (.iinc 5 (-1), 3) := dk_132 5 255 (dk_at dksX4_sumOf_3 10 rfl rfl)
theorem dX4_sumOf_84 : decode cX4_sumOf 84 = .ok (.goto (-69), 3) := dk_167 255 187 (dk_at dksX4_sumOf_3 13 rfl rfl)
theorem dX4_sumOf_87 : decode cX4_sumOf 87 = .ok (.aload_n 0, 1) := dk_42 (dk_at dksX4_sumOf_3 16 rfl rfl)
theorem dX4_sumOf_88 : decode cX4_sumOf 88 = .ok (.iload_n 2, 1) := dk_28 (dk_at dksX4_sumOf_3 17 rfl rfl)
theorem dX4_sumOf_89 : decode cX4_sumOf 89 = .ok (.ifCond .eq 7, 3) := dk_153 0 7 (dk_at dksX4_sumOf_3 18 rfl rfl)
theorem dX4_sumOf_92 : decode cX4_sumOf 92 = .ok (.iconst 1, 1) := dk_4 (dk_at dksX4_sumOf_3 21 rfl rfl)
theorem dX4_sumOf_93 : decode cX4_sumOf 93 = .ok (.goto 4, 3) := dk_167 0 4 (dk_at dksX4_sumOf_4 0 rfl rfl)
theorem dX4_sumOf_96 : decode cX4_sumOf 96 = .ok (.iconst 0, 1) := dk_3 (dk_at dksX4_sumOf_4 3 rfl rfl)
theorem dX4_sumOf_97 : decode cX4_sumOf 97 = .ok (.invokevirtual 118, 3) := dk_182 0 118 (dk_at dksX4_sumOf_4 4 rfl rfl)
theorem dX4_sumOf_100 : decode cX4_sumOf 100 = .ok (.ifCond .eq 7, 3) := dk_153 0 7 (dk_at dksX4_sumOf_4 7 rfl rfl)
theorem dX4_sumOf_103 : decode cX4_sumOf 103 = .ok (.iconst 0, 1) := dk_3 (dk_at dksX4_sumOf_4 10 rfl rfl)
theorem dX4_sumOf_104 : decode cX4_sumOf 104 = .ok (.goto 5, 3) := dk_167 0 5 (dk_at dksX4_sumOf_4 11 rfl rfl)
theorem dX4_sumOf_107 : decode cX4_sumOf 107 = .ok (.iload 4, 2) := dk_21 4 (dk_at dksX4_sumOf_4 14 rfl rfl)
theorem dX4_sumOf_109 : decode cX4_sumOf 109 = .ok (.ireturn, 1) := dk_172 (dk_at dksX4_sumOf_4 16 rfl rfl)
abbrev cX4_startEnumeration : ByteArray := prog_7_method_61_code
def yX4_startEnumeration : MethodName := ⟨RX4, "startEnumeration", "()I"⟩
def dkwX4_startEnumeration_1 : List UInt8 := [3, 181, 0, 48, 42, 2, 181, 0, 172, 42, 3, 181, 0, 175, 42, 180, 0, 7, 184, 0, 67, 172]
abbrev dktX4_startEnumeration_1 : List UInt8 := dkwX4_startEnumeration_1 ++ []
def dkwX4_startEnumeration_0 : List UInt8 := [42, 42, 180, 0, 7, 16, 6, 164, 0, 7, 4, 167, 0, 4, 3, 182, 0, 118, 153, 0, 5, 3, 172, 42]
abbrev dktX4_startEnumeration_0 : List UInt8 := dkwX4_startEnumeration_0 ++ dktX4_startEnumeration_1
theorem dksX4_startEnumeration_0 : cX4_startEnumeration.data.toList.drop 0 = dktX4_startEnumeration_0 := by decide +kernel
theorem dksX4_startEnumeration_1 : cX4_startEnumeration.data.toList.drop 24 = dktX4_startEnumeration_1 := dk_seg dksX4_startEnumeration_0 24 rfl rfl
theorem dX4_startEnumeration_0 : decode cX4_startEnumeration 0 = .ok (.aload_n 0, 1) := dk_42 (dk_at dksX4_startEnumeration_0 0 rfl rfl)
theorem dX4_startEnumeration_1 : decode cX4_startEnumeration 1 = .ok (.aload_n 0, 1) := dk_42 (dk_at dksX4_startEnumeration_0 1 rfl rfl)
theorem dX4_startEnumeration_2 : decode cX4_startEnumeration 2 = .ok (.getfield 7, 3) := dk_180 0 7 (dk_at dksX4_startEnumeration_0 2 rfl rfl)
theorem dX4_startEnumeration_5 : decode cX4_startEnumeration 5 = .ok (.bipush 6, 2) := dk_16 6 (dk_at dksX4_startEnumeration_0 5 rfl rfl)
theorem dX4_startEnumeration_7 : decode cX4_startEnumeration 7 = .ok (.if_icmp .le 7, 3) := dk_164 0 7 (dk_at dksX4_startEnumeration_0 7 rfl rfl)
theorem dX4_startEnumeration_10 : decode cX4_startEnumeration 10 = .ok (.iconst 1, 1) := dk_4 (dk_at dksX4_startEnumeration_0 10 rfl rfl)
theorem dX4_startEnumeration_11 : decode cX4_startEnumeration 11 = .ok (.goto 4, 3) := dk_167 0 4 (dk_at dksX4_startEnumeration_0 11 rfl rfl)
theorem dX4_startEnumeration_14 : decode cX4_startEnumeration 14 = .ok (.iconst 0, 1) := dk_3 (dk_at dksX4_startEnumeration_0 14 rfl rfl)
theorem dX4_startEnumeration_15 : decode cX4_startEnumeration 15 = .ok (.invokevirtual 118, 3) := dk_182 0 118 (dk_at dksX4_startEnumeration_0 15 rfl rfl)
theorem dX4_startEnumeration_18 : decode cX4_startEnumeration 18 = .ok (.ifCond .eq 5, 3) := dk_153 0 5 (dk_at dksX4_startEnumeration_0 18 rfl rfl)
theorem dX4_startEnumeration_21 : decode cX4_startEnumeration 21 = .ok (.iconst 0, 1) := dk_3 (dk_at dksX4_startEnumeration_0 21 rfl rfl)
theorem dX4_startEnumeration_22 : decode cX4_startEnumeration 22 = .ok (.ireturn, 1) := dk_172 (dk_at dksX4_startEnumeration_0 22 rfl rfl)
theorem dX4_startEnumeration_23 : decode cX4_startEnumeration 23 = .ok (.aload_n 0, 1) := dk_42 (dk_at dksX4_startEnumeration_0 23 rfl rfl)
theorem dX4_startEnumeration_24 : decode cX4_startEnumeration 24 = .ok (.iconst 0, 1) := dk_3 (dk_at dksX4_startEnumeration_1 0 rfl rfl)
theorem dX4_startEnumeration_25 : decode cX4_startEnumeration 25 = .ok (.putfield 48, 3) := dk_181 0 48 (dk_at dksX4_startEnumeration_1 1 rfl rfl)
theorem dX4_startEnumeration_28 : decode cX4_startEnumeration 28 = .ok (.aload_n 0, 1) := dk_42 (dk_at dksX4_startEnumeration_1 4 rfl rfl)
theorem dX4_startEnumeration_29 : decode cX4_startEnumeration 29 = .ok (.iconst (-1), 1) := dk_2 (dk_at dksX4_startEnumeration_1 5 rfl rfl)
theorem dX4_startEnumeration_30 : decode cX4_startEnumeration 30 = .ok (.putfield 172, 3) := dk_181 0 172 (dk_at dksX4_startEnumeration_1 6 rfl rfl)
theorem dX4_startEnumeration_33 : decode cX4_startEnumeration 33 = .ok (.aload_n 0, 1) := dk_42 (dk_at dksX4_startEnumeration_1 9 rfl rfl)
theorem dX4_startEnumeration_34 : decode cX4_startEnumeration 34 = .ok (.iconst 0, 1) := dk_3 (dk_at dksX4_startEnumeration_1 10 rfl rfl)
theorem dX4_startEnumeration_35 : decode cX4_startEnumeration 35 = .ok (.putfield 175, 3) := dk_181 0 175 (dk_at dksX4_startEnumeration_1 11 rfl rfl)
theorem dX4_startEnumeration_38 : decode cX4_startEnumeration 38 = .ok (.aload_n 0, 1) := dk_42 (dk_at dksX4_startEnumeration_1 14 rfl rfl)
theorem dX4_startEnumeration_39 : decode cX4_startEnumeration 39 = .ok (.getfield 7, 3) := dk_180 0 7 (dk_at dksX4_startEnumeration_1 15 rfl rfl)
theorem dX4_startEnumeration_42 : decode cX4_startEnumeration 42 = .ok (.invokestatic 67, 3) := dk_184 0 67 (dk_at dksX4_startEnumeration_1 18 rfl rfl)
theorem dX4_startEnumeration_45 : decode cX4_startEnumeration 45 = .ok (.ireturn, 1) := dk_172 (dk_at dksX4_startEnumeration_1 21 rfl rfl)
abbrev cX4_nextSum : ByteArray := prog_7_method_62_code
def yX4_nextSum : MethodName := ⟨RX4, "nextSum", "()I"⟩
def dkwX4_nextSum_8 : List UInt8 := [4, 96, 181, 0, 48, 27, 172]
abbrev dktX4_nextSum_8 : List UInt8 := dkwX4_nextSum_8 ++ []
def dkwX4_nextSum_7 : List UInt8 := [182, 0, 104, 132, 3, 1, 167, 255, 143, 42, 27, 181, 0, 172, 42, 28, 181, 0, 175, 42, 89, 180, 0, 48]
abbrev dktX4_nextSum_7 : List UInt8 := dkwX4_nextSum_7 ++ dktX4_nextSum_8
def dkwX4_nextSum_6 : List UInt8 := [180, 0, 51, 21, 6, 42, 180, 0, 42, 21, 6, 46, 79, 132, 6, 1, 167, 255, 230, 42, 42, 180, 0, 7]
abbrev dktX4_nextSum_6 : List UInt8 := dkwX4_nextSum_6 ++ dktX4_nextSum_7
def dkwX4_nextSum_5 : List UInt8 := [21, 4, 27, 162, 0, 40, 21, 4, 60, 29, 61, 3, 54, 6, 21, 6, 42, 180, 0, 7, 162, 0, 23, 42]
abbrev dktX4_nextSum_5 : List UInt8 := dkwX4_nextSum_5 ++ dktX4_nextSum_6
def dkwX4_nextSum_4 : List UInt8 := [160, 0, 15, 29, 42, 180, 0, 175, 164, 0, 7, 4, 167, 0, 4, 3, 54, 5, 21, 5, 153, 0, 46]
abbrev dktX4_nextSum_4 : List UInt8 := dkwX4_nextSum_4 ++ dktX4_nextSum_5
def dkwX4_nextSum_3 : List UInt8 := [180, 0, 7, 182, 0, 98, 54, 4, 21, 4, 42, 180, 0, 172, 163, 0, 20, 21, 4, 42, 180, 0, 172]
abbrev dktX4_nextSum_3 : List UInt8 := dkwX4_nextSum_3 ++ dktX4_nextSum_4
def dkwX4_nextSum_2 : List UInt8 := [182, 0, 108, 42, 182, 0, 95, 3, 62, 29, 42, 180, 0, 7, 184, 0, 67, 162, 0, 108, 42, 42]
abbrev dktX4_nextSum_2 : List UInt8 := dkwX4_nextSum_2 ++ dktX4_nextSum_3
def dkwX4_nextSum_1 : List UInt8 := [160, 0, 7, 5, 167, 0, 4, 3, 182, 0, 118, 153, 0, 5, 3, 172, 18, 79, 60, 3, 61, 42]
abbrev dktX4_nextSum_1 : List UInt8 := dkwX4_nextSum_1 ++ dktX4_nextSum_2
def dkwX4_nextSum_0 : List UInt8 := [42, 42, 180, 0, 48, 156, 0, 7, 4, 167, 0, 22, 42, 180, 0, 48, 42, 180, 0, 7, 184, 0, 67]
abbrev dktX4_nextSum_0 : List UInt8 := dkwX4_nextSum_0 ++ dktX4_nextSum_1
theorem dksX4_nextSum_0 : cX4_nextSum.data.toList.drop 0 = dktX4_nextSum_0 := by decide +kernel
theorem dksX4_nextSum_1 : cX4_nextSum.data.toList.drop 23 = dktX4_nextSum_1 := dk_seg dksX4_nextSum_0 23 rfl rfl
theorem dksX4_nextSum_2 : cX4_nextSum.data.toList.drop 45 = dktX4_nextSum_2 := dk_seg dksX4_nextSum_1 22 rfl rfl
theorem dksX4_nextSum_3 : cX4_nextSum.data.toList.drop 67 = dktX4_nextSum_3 := dk_seg dksX4_nextSum_2 22 rfl rfl
theorem dksX4_nextSum_4 : cX4_nextSum.data.toList.drop 90 = dktX4_nextSum_4 := dk_seg dksX4_nextSum_3 23 rfl rfl
theorem dksX4_nextSum_5 : cX4_nextSum.data.toList.drop 113 = dktX4_nextSum_5 := dk_seg dksX4_nextSum_4 23 rfl rfl
theorem dksX4_nextSum_6 : cX4_nextSum.data.toList.drop 137 = dktX4_nextSum_6 := dk_seg dksX4_nextSum_5 24 rfl rfl
theorem dksX4_nextSum_7 : cX4_nextSum.data.toList.drop 161 = dktX4_nextSum_7 := dk_seg dksX4_nextSum_6 24 rfl rfl
theorem dksX4_nextSum_8 : cX4_nextSum.data.toList.drop 185 = dktX4_nextSum_8 := dk_seg dksX4_nextSum_7 24 rfl rfl
theorem dX4_nextSum_0 : decode cX4_nextSum 0 = .ok (.aload_n 0, 1) := dk_42 (dk_at dksX4_nextSum_0 0 rfl rfl)
theorem dX4_nextSum_1 : decode cX4_nextSum 1 = .ok (.aload_n 0, 1) := dk_42 (dk_at dksX4_nextSum_0 1 rfl rfl)
theorem dX4_nextSum_2 : decode cX4_nextSum 2 = .ok (.getfield 48, 3) := dk_180 0 48 (dk_at dksX4_nextSum_0 2 rfl rfl)
theorem dX4_nextSum_5 : decode cX4_nextSum 5 = .ok (.ifCond .ge 7, 3) := dk_156 0 7 (dk_at dksX4_nextSum_0 5 rfl rfl)
theorem dX4_nextSum_8 : decode cX4_nextSum 8 = .ok (.iconst 1, 1) := dk_4 (dk_at dksX4_nextSum_0 8 rfl rfl)
theorem dX4_nextSum_9 : decode cX4_nextSum 9 = .ok (.goto 22, 3) := dk_167 0 22 (dk_at dksX4_nextSum_0 9 rfl rfl)
theorem dX4_nextSum_12 : decode cX4_nextSum 12 = .ok (.aload_n 0, 1) := dk_42 (dk_at dksX4_nextSum_0 12 rfl rfl)
theorem dX4_nextSum_13 : decode cX4_nextSum 13 = .ok (.getfield 48, 3) := dk_180 0 48 (dk_at dksX4_nextSum_0 13 rfl rfl)
theorem dX4_nextSum_16 : decode cX4_nextSum 16 = .ok (.aload_n 0, 1) := dk_42 (dk_at dksX4_nextSum_0 16 rfl rfl)
theorem dX4_nextSum_17 : decode cX4_nextSum 17 = .ok (.getfield 7, 3) := dk_180 0 7 (dk_at dksX4_nextSum_0 17 rfl rfl)
theorem dX4_nextSum_20 : decode cX4_nextSum 20 = .ok (.invokestatic 67, 3) := dk_184 0 67 (dk_at dksX4_nextSum_0 20 rfl rfl)
theorem dX4_nextSum_23 : decode cX4_nextSum 23 = .ok (.if_icmp .ne 7, 3) := dk_160 0 7 (dk_at dksX4_nextSum_1 0 rfl rfl)
theorem dX4_nextSum_26 : decode cX4_nextSum 26 = .ok (.iconst 2, 1) := dk_5 (dk_at dksX4_nextSum_1 3 rfl rfl)
theorem dX4_nextSum_27 : decode cX4_nextSum 27 = .ok (.goto 4, 3) := dk_167 0 4 (dk_at dksX4_nextSum_1 4 rfl rfl)
theorem dX4_nextSum_30 : decode cX4_nextSum 30 = .ok (.iconst 0, 1) := dk_3 (dk_at dksX4_nextSum_1 7 rfl rfl)
theorem dX4_nextSum_31 : decode cX4_nextSum 31 = .ok (.invokevirtual 118, 3) := dk_182 0 118 (dk_at dksX4_nextSum_1 8 rfl rfl)
theorem dX4_nextSum_34 : decode cX4_nextSum 34 = .ok (.ifCond .eq 5, 3) := dk_153 0 5 (dk_at dksX4_nextSum_1 11 rfl rfl)
theorem dX4_nextSum_37 : decode cX4_nextSum 37 = .ok (.iconst 0, 1) := dk_3 (dk_at dksX4_nextSum_1 14 rfl rfl)
theorem dX4_nextSum_38 : decode cX4_nextSum 38 = .ok (.ireturn, 1) := dk_172 (dk_at dksX4_nextSum_1 15 rfl rfl)
theorem dX4_nextSum_39 : decode cX4_nextSum 39 = .ok (.ldc 79, 2) := dk_18 79 (dk_at dksX4_nextSum_1 16 rfl rfl)
theorem dX4_nextSum_41 : decode cX4_nextSum 41 = .ok (.istore_n 1, 1) := dk_60 (dk_at dksX4_nextSum_1 18 rfl rfl)
theorem dX4_nextSum_42 : decode cX4_nextSum 42 = .ok (.iconst 0, 1) := dk_3 (dk_at dksX4_nextSum_1 19 rfl rfl)
theorem dX4_nextSum_43 : decode cX4_nextSum 43 = .ok (.istore_n 2, 1) := dk_61 (dk_at dksX4_nextSum_1 20 rfl rfl)
theorem dX4_nextSum_44 : decode cX4_nextSum 44 = .ok (.aload_n 0, 1) := dk_42 (dk_at dksX4_nextSum_1 21 rfl rfl)
theorem dX4_nextSum_45 : decode cX4_nextSum 45 = .ok (.invokevirtual 108, 3) := dk_182 0 108 (dk_at dksX4_nextSum_2 0 rfl rfl)
theorem dX4_nextSum_48 : decode cX4_nextSum 48 = .ok (.aload_n 0, 1) := dk_42 (dk_at dksX4_nextSum_2 3 rfl rfl)
theorem dX4_nextSum_49 : decode cX4_nextSum 49 = .ok (.invokevirtual 95, 3) := dk_182 0 95 (dk_at dksX4_nextSum_2 4 rfl rfl)
theorem dX4_nextSum_52 : decode cX4_nextSum 52 = .ok (.iconst 0, 1) := dk_3 (dk_at dksX4_nextSum_2 7 rfl rfl)
theorem dX4_nextSum_53 : decode cX4_nextSum 53 = .ok (.istore_n 3, 1) := dk_62 (dk_at dksX4_nextSum_2 8 rfl rfl)
theorem dX4_nextSum_54 : decode cX4_nextSum 54 = .ok (.iload_n 3, 1) := dk_29 (dk_at dksX4_nextSum_2 9 rfl rfl)
theorem dX4_nextSum_55 : decode cX4_nextSum 55 = .ok (.aload_n 0, 1) := dk_42 (dk_at dksX4_nextSum_2 10 rfl rfl)
theorem dX4_nextSum_56 : decode cX4_nextSum 56 = .ok (.getfield 7, 3) := dk_180 0 7 (dk_at dksX4_nextSum_2 11 rfl rfl)
theorem dX4_nextSum_59 : decode cX4_nextSum 59 = .ok (.invokestatic 67, 3) := dk_184 0 67 (dk_at dksX4_nextSum_2 14 rfl rfl)
theorem dX4_nextSum_62 : decode cX4_nextSum 62 = .ok (.if_icmp .ge 108, 3) := dk_162 0 108 (dk_at dksX4_nextSum_2 17 rfl rfl)
theorem dX4_nextSum_65 : decode cX4_nextSum 65 = .ok (.aload_n 0, 1) := dk_42 (dk_at dksX4_nextSum_2 20 rfl rfl)
theorem dX4_nextSum_66 : decode cX4_nextSum 66 = .ok (.aload_n 0, 1) := dk_42 (dk_at dksX4_nextSum_2 21 rfl rfl)
theorem dX4_nextSum_67 : decode cX4_nextSum 67 = .ok (.getfield 7, 3) := dk_180 0 7 (dk_at dksX4_nextSum_3 0 rfl rfl)
theorem dX4_nextSum_70 : decode cX4_nextSum 70 = .ok (.invokevirtual 98, 3) := dk_182 0 98 (dk_at dksX4_nextSum_3 3 rfl rfl)
theorem dX4_nextSum_73 : decode cX4_nextSum 73 = .ok (.istore 4, 2) := dk_54 4 (dk_at dksX4_nextSum_3 6 rfl rfl)
theorem dX4_nextSum_75 : decode cX4_nextSum 75 = .ok (.iload 4, 2) := dk_21 4 (dk_at dksX4_nextSum_3 8 rfl rfl)
theorem dX4_nextSum_77 : decode cX4_nextSum 77 = .ok (.aload_n 0, 1) := dk_42 (dk_at dksX4_nextSum_3 10 rfl rfl)
theorem dX4_nextSum_78 : decode cX4_nextSum 78 = .ok (.getfield 172, 3) := dk_180 0 172 (dk_at dksX4_nextSum_3 11 rfl rfl)
theorem dX4_nextSum_81 : decode cX4_nextSum 81 = .ok (.if_icmp .gt 20, 3) := dk_163 0 20 (dk_at dksX4_nextSum_3 14 rfl rfl)
theorem dX4_nextSum_84 : decode cX4_nextSum 84 = .ok (.iload 4, 2) := dk_21 4 (dk_at dksX4_nextSum_3 17 rfl rfl)
theorem dX4_nextSum_86 : decode cX4_nextSum 86 = .ok (.aload_n 0, 1) := dk_42 (dk_at dksX4_nextSum_3 19 rfl rfl)
theorem dX4_nextSum_87 : decode cX4_nextSum 87 = .ok (.getfield 172, 3) := dk_180 0 172 (dk_at dksX4_nextSum_3 20 rfl rfl)
theorem dX4_nextSum_90 : decode cX4_nextSum 90 = .ok (.if_icmp .ne 15, 3) := dk_160 0 15 (dk_at dksX4_nextSum_4 0 rfl rfl)
theorem dX4_nextSum_93 : decode cX4_nextSum 93 = .ok (.iload_n 3, 1) := dk_29 (dk_at dksX4_nextSum_4 3 rfl rfl)
theorem dX4_nextSum_94 : decode cX4_nextSum 94 = .ok (.aload_n 0, 1) := dk_42 (dk_at dksX4_nextSum_4 4 rfl rfl)
theorem dX4_nextSum_95 : decode cX4_nextSum 95 = .ok (.getfield 175, 3) := dk_180 0 175 (dk_at dksX4_nextSum_4 5 rfl rfl)
theorem dX4_nextSum_98 : decode cX4_nextSum 98 = .ok (.if_icmp .le 7, 3) := dk_164 0 7 (dk_at dksX4_nextSum_4 8 rfl rfl)
theorem dX4_nextSum_101 : decode cX4_nextSum 101 = .ok (.iconst 1, 1) := dk_4 (dk_at dksX4_nextSum_4 11 rfl rfl)
theorem dX4_nextSum_102 : decode cX4_nextSum 102 = .ok (.goto 4, 3) := dk_167 0 4 (dk_at dksX4_nextSum_4 12 rfl rfl)
theorem dX4_nextSum_105 : decode cX4_nextSum 105 = .ok (.iconst 0, 1) := dk_3 (dk_at dksX4_nextSum_4 15 rfl rfl)
theorem dX4_nextSum_106 : decode cX4_nextSum 106 = .ok (.istore 5, 2) := dk_54 5 (dk_at dksX4_nextSum_4 16 rfl rfl)
theorem dX4_nextSum_108 : decode cX4_nextSum 108 = .ok (.iload 5, 2) := dk_21 5 (dk_at dksX4_nextSum_4 18 rfl rfl)
theorem dX4_nextSum_110 : decode cX4_nextSum 110 = .ok (.ifCond .eq 46, 3) := dk_153 0 46 (dk_at dksX4_nextSum_4 20 rfl rfl)
theorem dX4_nextSum_113 : decode cX4_nextSum 113 = .ok (.iload 4, 2) := dk_21 4 (dk_at dksX4_nextSum_5 0 rfl rfl)
theorem dX4_nextSum_115 : decode cX4_nextSum 115 = .ok (.iload_n 1, 1) := dk_27 (dk_at dksX4_nextSum_5 2 rfl rfl)
theorem dX4_nextSum_116 : decode cX4_nextSum 116 = .ok (.if_icmp .ge 40, 3) := dk_162 0 40 (dk_at dksX4_nextSum_5 3 rfl rfl)
theorem dX4_nextSum_119 : decode cX4_nextSum 119 = .ok (.iload 4, 2) := dk_21 4 (dk_at dksX4_nextSum_5 6 rfl rfl)
theorem dX4_nextSum_121 : decode cX4_nextSum 121 = .ok (.istore_n 1, 1) := dk_60 (dk_at dksX4_nextSum_5 8 rfl rfl)
theorem dX4_nextSum_122 : decode cX4_nextSum 122 = .ok (.iload_n 3, 1) := dk_29 (dk_at dksX4_nextSum_5 9 rfl rfl)
theorem dX4_nextSum_123 : decode cX4_nextSum 123 = .ok (.istore_n 2, 1) := dk_61 (dk_at dksX4_nextSum_5 10 rfl rfl)
theorem dX4_nextSum_124 : decode cX4_nextSum 124 = .ok (.iconst 0, 1) := dk_3 (dk_at dksX4_nextSum_5 11 rfl rfl)
theorem dX4_nextSum_125 : decode cX4_nextSum 125 = .ok (.istore 6, 2) := dk_54 6 (dk_at dksX4_nextSum_5 12 rfl rfl)
theorem dX4_nextSum_127 : decode cX4_nextSum 127 = .ok (.iload 6, 2) := dk_21 6 (dk_at dksX4_nextSum_5 14 rfl rfl)
theorem dX4_nextSum_129 : decode cX4_nextSum 129 = .ok (.aload_n 0, 1) := dk_42 (dk_at dksX4_nextSum_5 16 rfl rfl)
theorem dX4_nextSum_130 : decode cX4_nextSum 130 = .ok (.getfield 7, 3) := dk_180 0 7 (dk_at dksX4_nextSum_5 17 rfl rfl)
theorem dX4_nextSum_133 : decode cX4_nextSum 133 = .ok (.if_icmp .ge 23, 3) := dk_162 0 23 (dk_at dksX4_nextSum_5 20 rfl rfl)
theorem dX4_nextSum_136 : decode cX4_nextSum 136 = .ok (.aload_n 0, 1) := dk_42 (dk_at dksX4_nextSum_5 23 rfl rfl)
theorem dX4_nextSum_137 : decode cX4_nextSum 137 = .ok (.getfield 51, 3) := dk_180 0 51 (dk_at dksX4_nextSum_6 0 rfl rfl)
theorem dX4_nextSum_140 : decode cX4_nextSum 140 = .ok (.iload 6, 2) := dk_21 6 (dk_at dksX4_nextSum_6 3 rfl rfl)
theorem dX4_nextSum_142 : decode cX4_nextSum 142 = .ok (.aload_n 0, 1) := dk_42 (dk_at dksX4_nextSum_6 5 rfl rfl)
theorem dX4_nextSum_143 : decode cX4_nextSum 143 = .ok (.getfield 42, 3) := dk_180 0 42 (dk_at dksX4_nextSum_6 6 rfl rfl)
theorem dX4_nextSum_146 : decode cX4_nextSum 146 = .ok (.iload 6, 2) := dk_21 6 (dk_at dksX4_nextSum_6 9 rfl rfl)
theorem dX4_nextSum_148 : decode cX4_nextSum 148 = .ok (.iaload, 1) := dk_46 (dk_at dksX4_nextSum_6 11 rfl rfl)
theorem dX4_nextSum_149 : decode cX4_nextSum 149 = .ok (.iastore, 1) := dk_79 (dk_at dksX4_nextSum_6 12 rfl rfl)
theorem dX4_nextSum_150 : decode cX4_nextSum 150 = .ok (.iinc 6 1, 3) := dk_132 6 1 (dk_at dksX4_nextSum_6 13 rfl rfl)
theorem dX4_nextSum_153 : decode cX4_nextSum 153 = .ok (.goto (-26), 3) := dk_167 255 230 (dk_at dksX4_nextSum_6 16 rfl rfl)
theorem dX4_nextSum_156 : decode cX4_nextSum 156 = .ok (.aload_n 0, 1) := dk_42 (dk_at dksX4_nextSum_6 19 rfl rfl)
theorem dX4_nextSum_157 : decode cX4_nextSum 157 = .ok (.aload_n 0, 1) := dk_42 (dk_at dksX4_nextSum_6 20 rfl rfl)
theorem dX4_nextSum_158 : decode cX4_nextSum 158 = .ok (.getfield 7, 3) := dk_180 0 7 (dk_at dksX4_nextSum_6 21 rfl rfl)
theorem dX4_nextSum_161 : decode cX4_nextSum 161 = .ok (.invokevirtual 104, 3) := dk_182 0 104 (dk_at dksX4_nextSum_7 0 rfl rfl)
theorem dX4_nextSum_164 : decode cX4_nextSum 164 = .ok (.iinc 3 1, 3) := dk_132 3 1 (dk_at dksX4_nextSum_7 3 rfl rfl)
theorem dX4_nextSum_167 : decode cX4_nextSum 167 = .ok (.goto (-113), 3) := dk_167 255 143 (dk_at dksX4_nextSum_7 6 rfl rfl)
theorem dX4_nextSum_170 : decode cX4_nextSum 170 = .ok (.aload_n 0, 1) := dk_42 (dk_at dksX4_nextSum_7 9 rfl rfl)
theorem dX4_nextSum_171 : decode cX4_nextSum 171 = .ok (.iload_n 1, 1) := dk_27 (dk_at dksX4_nextSum_7 10 rfl rfl)
theorem dX4_nextSum_172 : decode cX4_nextSum 172 = .ok (.putfield 172, 3) := dk_181 0 172 (dk_at dksX4_nextSum_7 11 rfl rfl)
theorem dX4_nextSum_175 : decode cX4_nextSum 175 = .ok (.aload_n 0, 1) := dk_42 (dk_at dksX4_nextSum_7 14 rfl rfl)
theorem dX4_nextSum_176 : decode cX4_nextSum 176 = .ok (.iload_n 2, 1) := dk_28 (dk_at dksX4_nextSum_7 15 rfl rfl)
theorem dX4_nextSum_177 : decode cX4_nextSum 177 = .ok (.putfield 175, 3) := dk_181 0 175 (dk_at dksX4_nextSum_7 16 rfl rfl)
theorem dX4_nextSum_180 : decode cX4_nextSum 180 = .ok (.aload_n 0, 1) := dk_42 (dk_at dksX4_nextSum_7 19 rfl rfl)
theorem dX4_nextSum_181 : decode cX4_nextSum 181 = .ok (.dup, 1) := dk_89 (dk_at dksX4_nextSum_7 20 rfl rfl)
theorem dX4_nextSum_182 : decode cX4_nextSum 182 = .ok (.getfield 48, 3) := dk_180 0 48 (dk_at dksX4_nextSum_7 21 rfl rfl)
theorem dX4_nextSum_185 : decode cX4_nextSum 185 = .ok (.iconst 1, 1) := dk_4 (dk_at dksX4_nextSum_8 0 rfl rfl)
theorem dX4_nextSum_186 : decode cX4_nextSum 186 = .ok (.iadd, 1) := dk_96 (dk_at dksX4_nextSum_8 1 rfl rfl)
theorem dX4_nextSum_187 : decode cX4_nextSum 187 = .ok (.putfield 48, 3) := dk_181 0 48 (dk_at dksX4_nextSum_8 2 rfl rfl)
theorem dX4_nextSum_190 : decode cX4_nextSum 190 = .ok (.iload_n 1, 1) := dk_27 (dk_at dksX4_nextSum_8 5 rfl rfl)
theorem dX4_nextSum_191 : decode cX4_nextSum 191 = .ok (.ireturn, 1) := dk_172 (dk_at dksX4_nextSum_8 6 rfl rfl)
abbrev cX4_currentColumn : ByteArray := prog_7_method_63_code
def yX4_currentColumn : MethodName := ⟨RX4, "currentColumn", "(I)I"⟩
def dkwX4_currentColumn_1 : List UInt8 := [167, 0, 4, 3, 182, 0, 118, 153, 0, 7, 3, 167, 0, 9, 42, 180, 0, 51, 27, 46, 172]
abbrev dktX4_currentColumn_1 : List UInt8 := dkwX4_currentColumn_1 ++ []
def dkwX4_currentColumn_0 : List UInt8 := [42, 42, 27, 182, 0, 122, 154, 0, 7, 4, 167, 0, 16, 42, 180, 0, 48, 4, 162, 0, 7, 5]
abbrev dktX4_currentColumn_0 : List UInt8 := dkwX4_currentColumn_0 ++ dktX4_currentColumn_1
theorem dksX4_currentColumn_0 : cX4_currentColumn.data.toList.drop 0 = dktX4_currentColumn_0 := by decide +kernel
theorem dksX4_currentColumn_1 : cX4_currentColumn.data.toList.drop 22 = dktX4_currentColumn_1 := dk_seg dksX4_currentColumn_0 22 rfl rfl
theorem dX4_currentColumn_0 : decode cX4_currentColumn 0 = .ok (.aload_n 0, 1) := dk_42 (dk_at dksX4_currentColumn_0 0 rfl rfl)
theorem dX4_currentColumn_1 : decode cX4_currentColumn 1 = .ok (.aload_n 0, 1) := dk_42 (dk_at dksX4_currentColumn_0 1 rfl rfl)
theorem dX4_currentColumn_2 : decode cX4_currentColumn 2 = .ok (.iload_n 1, 1) := dk_27 (dk_at dksX4_currentColumn_0 2 rfl rfl)
theorem dX4_currentColumn_3 : decode cX4_currentColumn 3 = .ok (.invokevirtual 122, 3) := dk_182 0 122 (dk_at dksX4_currentColumn_0 3 rfl rfl)
theorem dX4_currentColumn_6 : decode cX4_currentColumn 6 = .ok (.ifCond .ne 7, 3) := dk_154 0 7 (dk_at dksX4_currentColumn_0 6 rfl rfl)
theorem dX4_currentColumn_9 : decode cX4_currentColumn 9 = .ok (.iconst 1, 1) := dk_4 (dk_at dksX4_currentColumn_0 9 rfl rfl)
theorem dX4_currentColumn_10 : decode cX4_currentColumn 10 = .ok (.goto 16, 3) := dk_167 0 16 (dk_at dksX4_currentColumn_0 10 rfl rfl)
theorem dX4_currentColumn_13 : decode cX4_currentColumn 13 = .ok (.aload_n 0, 1) := dk_42 (dk_at dksX4_currentColumn_0 13 rfl rfl)
theorem dX4_currentColumn_14 : decode cX4_currentColumn 14 = .ok (.getfield 48, 3) := dk_180 0 48 (dk_at dksX4_currentColumn_0 14 rfl rfl)
theorem dX4_currentColumn_17 : decode cX4_currentColumn 17 = .ok (.iconst 1, 1) := dk_4 (dk_at dksX4_currentColumn_0 17 rfl rfl)
theorem dX4_currentColumn_18 : decode cX4_currentColumn 18 = .ok (.if_icmp .ge 7, 3) := dk_162 0 7 (dk_at dksX4_currentColumn_0 18 rfl rfl)
theorem dX4_currentColumn_21 : decode cX4_currentColumn 21 = .ok (.iconst 2, 1) := dk_5 (dk_at dksX4_currentColumn_0 21 rfl rfl)
theorem dX4_currentColumn_22 : decode cX4_currentColumn 22 = .ok (.goto 4, 3) := dk_167 0 4 (dk_at dksX4_currentColumn_1 0 rfl rfl)
theorem dX4_currentColumn_25 : decode cX4_currentColumn 25 = .ok (.iconst 0, 1) := dk_3 (dk_at dksX4_currentColumn_1 3 rfl rfl)
theorem dX4_currentColumn_26 : decode cX4_currentColumn 26 = .ok (.invokevirtual 118, 3) := dk_182 0 118 (dk_at dksX4_currentColumn_1 4 rfl rfl)
theorem dX4_currentColumn_29 : decode cX4_currentColumn 29 = .ok (.ifCond .eq 7, 3) := dk_153 0 7 (dk_at dksX4_currentColumn_1 7 rfl rfl)
theorem dX4_currentColumn_32 : decode cX4_currentColumn 32 = .ok (.iconst 0, 1) := dk_3 (dk_at dksX4_currentColumn_1 10 rfl rfl)
theorem dX4_currentColumn_33 : decode cX4_currentColumn 33 = .ok (.goto 9, 3) := dk_167 0 9 (dk_at dksX4_currentColumn_1 11 rfl rfl)
theorem dX4_currentColumn_36 : decode cX4_currentColumn 36 = .ok (.aload_n 0, 1) := dk_42 (dk_at dksX4_currentColumn_1 14 rfl rfl)
theorem dX4_currentColumn_37 : decode cX4_currentColumn 37 = .ok (.getfield 51, 3) := dk_180 0 51 (dk_at dksX4_currentColumn_1 15 rfl rfl)
theorem dX4_currentColumn_40 : decode cX4_currentColumn 40 = .ok (.iload_n 1, 1) := dk_27 (dk_at dksX4_currentColumn_1 18 rfl rfl)
theorem dX4_currentColumn_41 : decode cX4_currentColumn 41 = .ok (.iaload, 1) := dk_46 (dk_at dksX4_currentColumn_1 19 rfl rfl)
theorem dX4_currentColumn_42 : decode cX4_currentColumn 42 = .ok (.ireturn, 1) := dk_172 (dk_at dksX4_currentColumn_1 20 rfl rfl)
abbrev cX4_stepsMade : ByteArray := prog_7_method_64_code
def yX4_stepsMade : MethodName := ⟨RX4, "stepsMade", "()I"⟩
theorem dX4_stepsMade_0 : decode cX4_stepsMade 0 = .ok (.aload_n 0, 1) := by decide +kernel
theorem dX4_stepsMade_1 : decode cX4_stepsMade 1 = .ok (.getfield 48, 3) := by decide +kernel
theorem dX4_stepsMade_4 : decode cX4_stepsMade 4 = .ok (.ireturn, 1) := by decide +kernel
abbrev cX4_meanCost : ByteArray := prog_7_method_65_code
def yX4_meanCost : MethodName := ⟨RX4, "meanCost", "()D"⟩
def dkwX4_meanCost_0 : List UInt8 := [42, 182, 0, 153, 135, 42, 180, 0, 7, 42, 180, 0, 7, 104, 135, 111, 175]
abbrev dktX4_meanCost_0 : List UInt8 := dkwX4_meanCost_0 ++ []
theorem dksX4_meanCost_0 : cX4_meanCost.data.toList.drop 0 = dktX4_meanCost_0 := by decide +kernel
theorem dX4_meanCost_0 : decode cX4_meanCost 0 = .ok (.aload_n 0, 1) := dk_42 (dk_at dksX4_meanCost_0 0 rfl rfl)
theorem dX4_meanCost_1 : decode cX4_meanCost 1 = .ok (.invokevirtual 153, 3) := dk_182 0 153 (dk_at dksX4_meanCost_0 1 rfl rfl)
theorem dX4_meanCost_4 : decode cX4_meanCost 4 = .ok (.i2d, 1) := dk_135 (dk_at dksX4_meanCost_0 4 rfl rfl)
theorem dX4_meanCost_5 : decode cX4_meanCost 5 = .ok (.aload_n 0, 1) := dk_42 (dk_at dksX4_meanCost_0 5 rfl rfl)
theorem dX4_meanCost_6 : decode cX4_meanCost 6 = .ok (.getfield 7, 3) := dk_180 0 7 (dk_at dksX4_meanCost_0 6 rfl rfl)
theorem dX4_meanCost_9 : decode cX4_meanCost 9 = .ok (.aload_n 0, 1) := dk_42 (dk_at dksX4_meanCost_0 9 rfl rfl)
theorem dX4_meanCost_10 : decode cX4_meanCost 10 = .ok (.getfield 7, 3) := dk_180 0 7 (dk_at dksX4_meanCost_0 10 rfl rfl)
theorem dX4_meanCost_13 : decode cX4_meanCost 13 = .ok (.imul, 1) := dk_104 (dk_at dksX4_meanCost_0 13 rfl rfl)
theorem dX4_meanCost_14 : decode cX4_meanCost 14 = .ok (.i2d, 1) := dk_135 (dk_at dksX4_meanCost_0 14 rfl rfl)
theorem dX4_meanCost_15 : decode cX4_meanCost 15 = .ok (.ddiv, 1) := dk_111 (dk_at dksX4_meanCost_0 15 rfl rfl)
theorem dX4_meanCost_16 : decode cX4_meanCost 16 = .ok (.dreturn, 1) := dk_175 (dk_at dksX4_meanCost_0 16 rfl rfl)
abbrev cX4_shareOf : ByteArray := prog_7_method_66_code
def yX4_shareOf : MethodName := ⟨RX4, "shareOf", "(I)F"⟩
def dkwX4_shareOf_2 : List UInt8 := [180, 0, 45, 27, 46, 96, 46, 134, 42, 180, 0, 80, 134, 110, 174]
abbrev dktX4_shareOf_2 : List UInt8 := dkwX4_shareOf_2 ++ []
def dkwX4_shareOf_1 : List UInt8 := [182, 0, 114, 42, 180, 0, 80, 154, 0, 7, 11, 167, 0, 26, 42, 180, 0, 36, 16, 7, 27, 104, 42]
abbrev dktX4_shareOf_1 : List UInt8 := dkwX4_shareOf_1 ++ dktX4_shareOf_2
def dkwX4_shareOf_0 : List UInt8 := [42, 42, 27, 182, 0, 122, 153, 0, 7, 3, 167, 0, 4, 4, 182, 0, 118, 153, 0, 5, 11, 174, 42]
abbrev dktX4_shareOf_0 : List UInt8 := dkwX4_shareOf_0 ++ dktX4_shareOf_1
theorem dksX4_shareOf_0 : cX4_shareOf.data.toList.drop 0 = dktX4_shareOf_0 := by decide +kernel
theorem dksX4_shareOf_1 : cX4_shareOf.data.toList.drop 23 = dktX4_shareOf_1 := dk_seg dksX4_shareOf_0 23 rfl rfl
theorem dksX4_shareOf_2 : cX4_shareOf.data.toList.drop 46 = dktX4_shareOf_2 := dk_seg dksX4_shareOf_1 23 rfl rfl
theorem dX4_shareOf_0 : decode cX4_shareOf 0 = .ok (.aload_n 0, 1) := dk_42 (dk_at dksX4_shareOf_0 0 rfl rfl)
theorem dX4_shareOf_1 : decode cX4_shareOf 1 = .ok (.aload_n 0, 1) := dk_42 (dk_at dksX4_shareOf_0 1 rfl rfl)
theorem dX4_shareOf_2 : decode cX4_shareOf 2 = .ok (.iload_n 1, 1) := dk_27 (dk_at dksX4_shareOf_0 2 rfl rfl)
theorem dX4_shareOf_3 : decode cX4_shareOf 3 = .ok (.invokevirtual 122, 3) := dk_182 0 122 (dk_at dksX4_shareOf_0 3 rfl rfl)
theorem dX4_shareOf_6 : decode cX4_shareOf 6 = .ok (.ifCond .eq 7, 3) := dk_153 0 7 (dk_at dksX4_shareOf_0 6 rfl rfl)
theorem dX4_shareOf_9 : decode cX4_shareOf 9 = .ok (.iconst 0, 1) := dk_3 (dk_at dksX4_shareOf_0 9 rfl rfl)
theorem dX4_shareOf_10 : decode cX4_shareOf 10 = .ok (.goto 4, 3) := dk_167 0 4 (dk_at dksX4_shareOf_0 10 rfl rfl)
theorem dX4_shareOf_13 : decode cX4_shareOf 13 = .ok (.iconst 1, 1) := dk_4 (dk_at dksX4_shareOf_0 13 rfl rfl)
theorem dX4_shareOf_14 : decode cX4_shareOf 14 = .ok (.invokevirtual 118, 3) := dk_182 0 118 (dk_at dksX4_shareOf_0 14 rfl rfl)
theorem dX4_shareOf_17 : decode cX4_shareOf 17 = .ok (.ifCond .eq 5, 3) := dk_153 0 5 (dk_at dksX4_shareOf_0 17 rfl rfl)
theorem dX4_shareOf_20 : decode cX4_shareOf 20 = .ok (.fconst 0, 1) := dk_11 (dk_at dksX4_shareOf_0 20 rfl rfl)
theorem dX4_shareOf_21 : decode cX4_shareOf 21 = .ok (.freturn, 1) := dk_174 (dk_at dksX4_shareOf_0 21 rfl rfl)
theorem dX4_shareOf_22 : decode cX4_shareOf 22 = .ok (.aload_n 0, 1) := dk_42 (dk_at dksX4_shareOf_0 22 rfl rfl)
theorem dX4_shareOf_23 : decode cX4_shareOf 23 = .ok (.invokevirtual 114, 3) := dk_182 0 114 (dk_at dksX4_shareOf_1 0 rfl rfl)
theorem dX4_shareOf_26 : decode cX4_shareOf 26 = .ok (.aload_n 0, 1) := dk_42 (dk_at dksX4_shareOf_1 3 rfl rfl)
theorem dX4_shareOf_27 : decode cX4_shareOf 27 = .ok (.getfield 80, 3) := dk_180 0 80 (dk_at dksX4_shareOf_1 4 rfl rfl)
theorem dX4_shareOf_30 : decode cX4_shareOf 30 = .ok (.ifCond .ne 7, 3) := dk_154 0 7 (dk_at dksX4_shareOf_1 7 rfl rfl)
theorem dX4_shareOf_33 : decode cX4_shareOf 33 = .ok (.fconst 0, 1) := dk_11 (dk_at dksX4_shareOf_1 10 rfl rfl)
theorem dX4_shareOf_34 : decode cX4_shareOf 34 = .ok (.goto 26, 3) := dk_167 0 26 (dk_at dksX4_shareOf_1 11 rfl rfl)
theorem dX4_shareOf_37 : decode cX4_shareOf 37 = .ok (.aload_n 0, 1) := dk_42 (dk_at dksX4_shareOf_1 14 rfl rfl)
theorem dX4_shareOf_38 : decode cX4_shareOf 38 = .ok (.getfield 36, 3) := dk_180 0 36 (dk_at dksX4_shareOf_1 15 rfl rfl)
theorem dX4_shareOf_41 : decode cX4_shareOf 41 = .ok (.bipush 7, 2) := dk_16 7 (dk_at dksX4_shareOf_1 18 rfl rfl)
theorem dX4_shareOf_43 : decode cX4_shareOf 43 = .ok (.iload_n 1, 1) := dk_27 (dk_at dksX4_shareOf_1 20 rfl rfl)
theorem dX4_shareOf_44 : decode cX4_shareOf 44 = .ok (.imul, 1) := dk_104 (dk_at dksX4_shareOf_1 21 rfl rfl)
theorem dX4_shareOf_45 : decode cX4_shareOf 45 = .ok (.aload_n 0, 1) := dk_42 (dk_at dksX4_shareOf_1 22 rfl rfl)
theorem dX4_shareOf_46 : decode cX4_shareOf 46 = .ok (.getfield 45, 3) := dk_180 0 45 (dk_at dksX4_shareOf_2 0 rfl rfl)
theorem dX4_shareOf_49 : decode cX4_shareOf 49 = .ok (.iload_n 1, 1) := dk_27 (dk_at dksX4_shareOf_2 3 rfl rfl)
theorem dX4_shareOf_50 : decode cX4_shareOf 50 = .ok (.iaload, 1) := dk_46 (dk_at dksX4_shareOf_2 4 rfl rfl)
theorem dX4_shareOf_51 : decode cX4_shareOf 51 = .ok (.iadd, 1) := dk_96 (dk_at dksX4_shareOf_2 5 rfl rfl)
theorem dX4_shareOf_52 : decode cX4_shareOf 52 = .ok (.iaload, 1) := dk_46 (dk_at dksX4_shareOf_2 6 rfl rfl)
theorem dX4_shareOf_53 : decode cX4_shareOf 53 = .ok (.i2f, 1) := dk_134 (dk_at dksX4_shareOf_2 7 rfl rfl)
theorem dX4_shareOf_54 : decode cX4_shareOf 54 = .ok (.aload_n 0, 1) := dk_42 (dk_at dksX4_shareOf_2 8 rfl rfl)
theorem dX4_shareOf_55 : decode cX4_shareOf 55 = .ok (.getfield 80, 3) := dk_180 0 80 (dk_at dksX4_shareOf_2 9 rfl rfl)
theorem dX4_shareOf_58 : decode cX4_shareOf 58 = .ok (.i2f, 1) := dk_134 (dk_at dksX4_shareOf_2 12 rfl rfl)
theorem dX4_shareOf_59 : decode cX4_shareOf 59 = .ok (.fdiv, 1) := dk_110 (dk_at dksX4_shareOf_2 13 rfl rfl)
theorem dX4_shareOf_60 : decode cX4_shareOf 60 = .ok (.freturn, 1) := dk_174 (dk_at dksX4_shareOf_2 14 rfl rfl)
abbrev cX4_checksum : ByteArray := prog_7_method_67_code
def yX4_checksum : MethodName := ⟨RX4, "checksum", "()J"⟩
def dkwX4_checksum_9 : List UInt8 := [167, 255, 229, 132, 3, 1, 167, 255, 212, 31, 173]
abbrev dktX4_checksum_9 : List UInt8 := dkwX4_checksum_9 ++ []
def dkwX4_checksum_8 : List UInt8 := [180, 0, 16, 162, 0, 24, 20, 0, 180, 31, 105, 42, 29, 21, 4, 182, 0, 156, 133, 97, 64, 132, 4, 1]
abbrev dktX4_checksum_8 : List UInt8 := dkwX4_checksum_8 ++ dktX4_checksum_9
def dkwX4_checksum_7 : List UInt8 := [180, 0, 19, 133, 97, 64, 3, 62, 29, 42, 180, 0, 16, 162, 0, 42, 3, 54, 4, 21, 4, 42]
abbrev dktX4_checksum_7 : List UInt8 := dkwX4_checksum_7 ++ dktX4_checksum_8
def dkwX4_checksum_6 : List UInt8 := [97, 64, 132, 3, 1, 167, 255, 231, 20, 0, 180, 20, 0, 180, 31, 105, 42, 180, 0, 16, 133, 97, 105, 42]
abbrev dktX4_checksum_6 : List UInt8 := dkwX4_checksum_6 ++ dktX4_checksum_7
def dkwX4_checksum_5 : List UInt8 := [97, 64, 3, 62, 29, 42, 180, 0, 7, 162, 0, 23, 20, 0, 180, 31, 105, 42, 180, 0, 45, 29, 46, 133]
abbrev dktX4_checksum_5 : List UInt8 := dkwX4_checksum_5 ++ dktX4_checksum_6
def dkwX4_checksum_4 : List UInt8 := [97, 64, 132, 4, 1, 167, 255, 229, 132, 3, 1, 167, 255, 212, 20, 0, 180, 31, 105, 42, 180, 0, 80, 133]
abbrev dktX4_checksum_4 : List UInt8 := dkwX4_checksum_4 ++ dktX4_checksum_5
def dkwX4_checksum_3 : List UInt8 := [54, 4, 21, 4, 42, 180, 0, 7, 162, 0, 24, 20, 0, 180, 31, 105, 42, 29, 21, 4, 182, 0, 75, 133]
abbrev dktX4_checksum_3 : List UInt8 := dkwX4_checksum_3 ++ dktX4_checksum_4
def dkwX4_checksum_2 : List UInt8 := [182, 0, 153, 133, 97, 105, 42, 180, 0, 48, 133, 97, 64, 3, 62, 29, 42, 180, 0, 7, 162, 0, 42, 3]
abbrev dktX4_checksum_2 : List UInt8 := dkwX4_checksum_2 ++ dktX4_checksum_3
def dkwX4_checksum_1 : List UInt8 := [180, 0, 13, 133, 97, 105, 42, 182, 0, 134, 133, 97, 64, 20, 0, 180, 20, 0, 180, 31, 105, 42]
abbrev dktX4_checksum_1 : List UInt8 := dkwX4_checksum_1 ++ dktX4_checksum_2
def dkwX4_checksum_0 : List UInt8 := [42, 182, 0, 114, 20, 0, 178, 42, 180, 0, 7, 133, 97, 64, 20, 0, 180, 20, 0, 180, 31, 105, 42]
abbrev dktX4_checksum_0 : List UInt8 := dkwX4_checksum_0 ++ dktX4_checksum_1
theorem dksX4_checksum_0 : cX4_checksum.data.toList.drop 0 = dktX4_checksum_0 := by decide +kernel
theorem dksX4_checksum_1 : cX4_checksum.data.toList.drop 23 = dktX4_checksum_1 := dk_seg dksX4_checksum_0 23 rfl rfl
theorem dksX4_checksum_2 : cX4_checksum.data.toList.drop 45 = dktX4_checksum_2 := dk_seg dksX4_checksum_1 22 rfl rfl
theorem dksX4_checksum_3 : cX4_checksum.data.toList.drop 69 = dktX4_checksum_3 := dk_seg dksX4_checksum_2 24 rfl rfl
theorem dksX4_checksum_4 : cX4_checksum.data.toList.drop 93 = dktX4_checksum_4 := dk_seg dksX4_checksum_3 24 rfl rfl
theorem dksX4_checksum_5 : cX4_checksum.data.toList.drop 117 = dktX4_checksum_5 := dk_seg dksX4_checksum_4 24 rfl rfl
theorem dksX4_checksum_6 : cX4_checksum.data.toList.drop 141 = dktX4_checksum_6 := dk_seg dksX4_checksum_5 24 rfl rfl
theorem dksX4_checksum_7 : cX4_checksum.data.toList.drop 165 = dktX4_checksum_7 := dk_seg dksX4_checksum_6 24 rfl rfl
theorem dksX4_checksum_8 : cX4_checksum.data.toList.drop 187 = dktX4_checksum_8 := dk_seg dksX4_checksum_7 22 rfl rfl
theorem dksX4_checksum_9 : cX4_checksum.data.toList.drop 211 = dktX4_checksum_9 := dk_seg dksX4_checksum_8 24 rfl rfl
theorem dX4_checksum_0 : decode cX4_checksum 0 = .ok (.aload_n 0, 1) := dk_42 (dk_at dksX4_checksum_0 0 rfl rfl)
theorem dX4_checksum_1 : decode cX4_checksum 1 = .ok (.invokevirtual 114, 3) := dk_182 0 114 (dk_at dksX4_checksum_0 1 rfl rfl)
theorem dX4_checksum_4 : decode cX4_checksum 4 = .ok (.ldc2_w 178, 3) := dk_20 0 178 (dk_at dksX4_checksum_0 4 rfl rfl)
theorem dX4_checksum_7 : decode cX4_checksum 7 = .ok (.aload_n 0, 1) := dk_42 (dk_at dksX4_checksum_0 7 rfl rfl)
theorem dX4_checksum_8 : decode cX4_checksum 8 = .ok (.getfield 7, 3) := dk_180 0 7 (dk_at dksX4_checksum_0 8 rfl rfl)
theorem dX4_checksum_11 : decode cX4_checksum 11 = .ok (.i2l, 1) := dk_133 (dk_at dksX4_checksum_0 11 rfl rfl)
theorem dX4_checksum_12 : decode cX4_checksum 12 = .ok (.ladd, 1) := dk_97 (dk_at dksX4_checksum_0 12 rfl rfl)
theorem dX4_checksum_13 : decode cX4_checksum 13 = .ok (.lstore_n 1, 1) := dk_64 (dk_at dksX4_checksum_0 13 rfl rfl)
theorem dX4_checksum_14 : decode cX4_checksum 14 = .ok (.ldc2_w 180, 3) := dk_20 0 180 (dk_at dksX4_checksum_0 14 rfl rfl)
theorem dX4_checksum_17 : decode cX4_checksum 17 = .ok (.ldc2_w 180, 3) := dk_20 0 180 (dk_at dksX4_checksum_0 17 rfl rfl)
theorem dX4_checksum_20 : decode cX4_checksum 20 = .ok (.lload_n 1, 1) := dk_31 (dk_at dksX4_checksum_0 20 rfl rfl)
theorem dX4_checksum_21 : decode cX4_checksum 21 = .ok (.lmul, 1) := dk_105 (dk_at dksX4_checksum_0 21 rfl rfl)
theorem dX4_checksum_22 : decode cX4_checksum 22 = .ok (.aload_n 0, 1) := dk_42 (dk_at dksX4_checksum_0 22 rfl rfl)
theorem dX4_checksum_23 : decode cX4_checksum 23 = .ok (.getfield 13, 3) := dk_180 0 13 (dk_at dksX4_checksum_1 0 rfl rfl)
theorem dX4_checksum_26 : decode cX4_checksum 26 = .ok (.i2l, 1) := dk_133 (dk_at dksX4_checksum_1 3 rfl rfl)
theorem dX4_checksum_27 : decode cX4_checksum 27 = .ok (.ladd, 1) := dk_97 (dk_at dksX4_checksum_1 4 rfl rfl)
theorem dX4_checksum_28 : decode cX4_checksum 28 = .ok (.lmul, 1) := dk_105 (dk_at dksX4_checksum_1 5 rfl rfl)
theorem dX4_checksum_29 : decode cX4_checksum 29 = .ok (.aload_n 0, 1) := dk_42 (dk_at dksX4_checksum_1 6 rfl rfl)
theorem dX4_checksum_30 : decode cX4_checksum 30 = .ok (.invokevirtual 134, 3) := dk_182 0 134 (dk_at dksX4_checksum_1 7 rfl rfl)
theorem dX4_checksum_33 : decode cX4_checksum 33 = .ok (.i2l, 1) := dk_133 (dk_at dksX4_checksum_1 10 rfl rfl)
theorem dX4_checksum_34 : decode cX4_checksum 34 = .ok (.ladd, 1) := dk_97 (dk_at dksX4_checksum_1 11 rfl rfl)
theorem dX4_checksum_35 : decode cX4_checksum 35 = .ok (.lstore_n 1, 1) := dk_64 (dk_at dksX4_checksum_1 12 rfl rfl)
theorem dX4_checksum_36 : decode cX4_checksum 36 = .ok (.ldc2_w 180, 3) := dk_20 0 180 (dk_at dksX4_checksum_1 13 rfl rfl)
theorem dX4_checksum_39 : decode cX4_checksum 39 = .ok (.ldc2_w 180, 3) := dk_20 0 180 (dk_at dksX4_checksum_1 16 rfl rfl)
theorem dX4_checksum_42 : decode cX4_checksum 42 = .ok (.lload_n 1, 1) := dk_31 (dk_at dksX4_checksum_1 19 rfl rfl)
theorem dX4_checksum_43 : decode cX4_checksum 43 = .ok (.lmul, 1) := dk_105 (dk_at dksX4_checksum_1 20 rfl rfl)
theorem dX4_checksum_44 : decode cX4_checksum 44 = .ok (.aload_n 0, 1) := dk_42 (dk_at dksX4_checksum_1 21 rfl rfl)
theorem dX4_checksum_45 : decode cX4_checksum 45 = .ok (.invokevirtual 153, 3) := dk_182 0 153 (dk_at dksX4_checksum_2 0 rfl rfl)
theorem dX4_checksum_48 : decode cX4_checksum 48 = .ok (.i2l, 1) := dk_133 (dk_at dksX4_checksum_2 3 rfl rfl)
theorem dX4_checksum_49 : decode cX4_checksum 49 = .ok (.ladd, 1) := dk_97 (dk_at dksX4_checksum_2 4 rfl rfl)
theorem dX4_checksum_50 : decode cX4_checksum 50 = .ok (.lmul, 1) := dk_105 (dk_at dksX4_checksum_2 5 rfl rfl)
theorem dX4_checksum_51 : decode cX4_checksum 51 = .ok (.aload_n 0, 1) := dk_42 (dk_at dksX4_checksum_2 6 rfl rfl)
theorem dX4_checksum_52 : decode cX4_checksum 52 = .ok (.getfield 48, 3) := dk_180 0 48 (dk_at dksX4_checksum_2 7 rfl rfl)
theorem dX4_checksum_55 : decode cX4_checksum 55 = .ok (.i2l, 1) := dk_133 (dk_at dksX4_checksum_2 10 rfl rfl)
theorem dX4_checksum_56 : decode cX4_checksum 56 = .ok (.ladd, 1) := dk_97 (dk_at dksX4_checksum_2 11 rfl rfl)
theorem dX4_checksum_57 : decode cX4_checksum 57 = .ok (.lstore_n 1, 1) := dk_64 (dk_at dksX4_checksum_2 12 rfl rfl)
theorem dX4_checksum_58 : decode cX4_checksum 58 = .ok (.iconst 0, 1) := dk_3 (dk_at dksX4_checksum_2 13 rfl rfl)
theorem dX4_checksum_59 : decode cX4_checksum 59 = .ok (.istore_n 3, 1) := dk_62 (dk_at dksX4_checksum_2 14 rfl rfl)
theorem dX4_checksum_60 : decode cX4_checksum 60 = .ok (.iload_n 3, 1) := dk_29 (dk_at dksX4_checksum_2 15 rfl rfl)
theorem dX4_checksum_61 : decode cX4_checksum 61 = .ok (.aload_n 0, 1) := dk_42 (dk_at dksX4_checksum_2 16 rfl rfl)
theorem dX4_checksum_62 : decode cX4_checksum 62 = .ok (.getfield 7, 3) := dk_180 0 7 (dk_at dksX4_checksum_2 17 rfl rfl)
theorem dX4_checksum_65 : decode cX4_checksum 65 = .ok (.if_icmp .ge 42, 3) := dk_162 0 42 (dk_at dksX4_checksum_2 20 rfl rfl)
theorem dX4_checksum_68 : decode cX4_checksum 68 = .ok (.iconst 0, 1) := dk_3 (dk_at dksX4_checksum_2 23 rfl rfl)
theorem dX4_checksum_69 : decode cX4_checksum 69 = .ok (.istore 4, 2) := dk_54 4 (dk_at dksX4_checksum_3 0 rfl rfl)
theorem dX4_checksum_71 : decode cX4_checksum 71 = .ok (.iload 4, 2) := dk_21 4 (dk_at dksX4_checksum_3 2 rfl rfl)
theorem dX4_checksum_73 : decode cX4_checksum 73 = .ok (.aload_n 0, 1) := dk_42 (dk_at dksX4_checksum_3 4 rfl rfl)
theorem dX4_checksum_74 : decode cX4_checksum 74 = .ok (.getfield 7, 3) := dk_180 0 7 (dk_at dksX4_checksum_3 5 rfl rfl)
theorem dX4_checksum_77 : decode cX4_checksum 77 = .ok (.if_icmp .ge 24, 3) := dk_162 0 24 (dk_at dksX4_checksum_3 8 rfl rfl)
theorem dX4_checksum_80 : decode cX4_checksum 80 = .ok (.ldc2_w 180, 3) := dk_20 0 180 (dk_at dksX4_checksum_3 11 rfl rfl)
theorem dX4_checksum_83 : decode cX4_checksum 83 = .ok (.lload_n 1, 1) := dk_31 (dk_at dksX4_checksum_3 14 rfl rfl)
theorem dX4_checksum_84 : decode cX4_checksum 84 = .ok (.lmul, 1) := dk_105 (dk_at dksX4_checksum_3 15 rfl rfl)
theorem dX4_checksum_85 : decode cX4_checksum 85 = .ok (.aload_n 0, 1) := dk_42 (dk_at dksX4_checksum_3 16 rfl rfl)
theorem dX4_checksum_86 : decode cX4_checksum 86 = .ok (.iload_n 3, 1) := dk_29 (dk_at dksX4_checksum_3 17 rfl rfl)
theorem dX4_checksum_87 : decode cX4_checksum 87 = .ok (.iload 4, 2) := dk_21 4 (dk_at dksX4_checksum_3 18 rfl rfl)
theorem dX4_checksum_89 : decode cX4_checksum 89 = .ok (.invokevirtual 75, 3) := dk_182 0 75 (dk_at dksX4_checksum_3 20 rfl rfl)
theorem dX4_checksum_92 : decode cX4_checksum 92 = .ok (.i2l, 1) := dk_133 (dk_at dksX4_checksum_3 23 rfl rfl)
theorem dX4_checksum_93 : decode cX4_checksum 93 = .ok (.ladd, 1) := dk_97 (dk_at dksX4_checksum_4 0 rfl rfl)
theorem dX4_checksum_94 : decode cX4_checksum 94 = .ok (.lstore_n 1, 1) := dk_64 (dk_at dksX4_checksum_4 1 rfl rfl)
theorem dX4_checksum_95 : decode cX4_checksum 95 = .ok (.iinc 4 1, 3) := dk_132 4 1 (dk_at dksX4_checksum_4 2 rfl rfl)
theorem dX4_checksum_98 : decode cX4_checksum 98 = .ok (.goto (-27), 3) := dk_167 255 229 (dk_at dksX4_checksum_4 5 rfl rfl)
theorem dX4_checksum_101 : decode cX4_checksum 101 = .ok (.iinc 3 1, 3) := dk_132 3 1 (dk_at dksX4_checksum_4 8 rfl rfl)
theorem dX4_checksum_104 : decode cX4_checksum 104 = .ok (.goto (-44), 3) := dk_167 255 212 (dk_at dksX4_checksum_4 11 rfl rfl)
theorem dX4_checksum_107 : decode cX4_checksum 107 = .ok (.ldc2_w 180, 3) := dk_20 0 180 (dk_at dksX4_checksum_4 14 rfl rfl)
theorem dX4_checksum_110 : decode cX4_checksum 110 = .ok (.lload_n 1, 1) := dk_31 (dk_at dksX4_checksum_4 17 rfl rfl)
theorem dX4_checksum_111 : decode cX4_checksum 111 = .ok (.lmul, 1) := dk_105 (dk_at dksX4_checksum_4 18 rfl rfl)
theorem dX4_checksum_112 : decode cX4_checksum 112 = .ok (.aload_n 0, 1) := dk_42 (dk_at dksX4_checksum_4 19 rfl rfl)
theorem dX4_checksum_113 : decode cX4_checksum 113 = .ok (.getfield 80, 3) := dk_180 0 80 (dk_at dksX4_checksum_4 20 rfl rfl)
theorem dX4_checksum_116 : decode cX4_checksum 116 = .ok (.i2l, 1) := dk_133 (dk_at dksX4_checksum_4 23 rfl rfl)
theorem dX4_checksum_117 : decode cX4_checksum 117 = .ok (.ladd, 1) := dk_97 (dk_at dksX4_checksum_5 0 rfl rfl)
theorem dX4_checksum_118 : decode cX4_checksum 118 = .ok (.lstore_n 1, 1) := dk_64 (dk_at dksX4_checksum_5 1 rfl rfl)
theorem dX4_checksum_119 : decode cX4_checksum 119 = .ok (.iconst 0, 1) := dk_3 (dk_at dksX4_checksum_5 2 rfl rfl)
theorem dX4_checksum_120 : decode cX4_checksum 120 = .ok (.istore_n 3, 1) := dk_62 (dk_at dksX4_checksum_5 3 rfl rfl)
theorem dX4_checksum_121 : decode cX4_checksum 121 = .ok (.iload_n 3, 1) := dk_29 (dk_at dksX4_checksum_5 4 rfl rfl)
theorem dX4_checksum_122 : decode cX4_checksum 122 = .ok (.aload_n 0, 1) := dk_42 (dk_at dksX4_checksum_5 5 rfl rfl)
theorem dX4_checksum_123 : decode cX4_checksum 123 = .ok (.getfield 7, 3) := dk_180 0 7 (dk_at dksX4_checksum_5 6 rfl rfl)
theorem dX4_checksum_126 : decode cX4_checksum 126 = .ok (.if_icmp .ge 23, 3) := dk_162 0 23 (dk_at dksX4_checksum_5 9 rfl rfl)
theorem dX4_checksum_129 : decode cX4_checksum 129 = .ok (.ldc2_w 180, 3) := dk_20 0 180 (dk_at dksX4_checksum_5 12 rfl rfl)
theorem dX4_checksum_132 : decode cX4_checksum 132 = .ok (.lload_n 1, 1) := dk_31 (dk_at dksX4_checksum_5 15 rfl rfl)
theorem dX4_checksum_133 : decode cX4_checksum 133 = .ok (.lmul, 1) := dk_105 (dk_at dksX4_checksum_5 16 rfl rfl)
theorem dX4_checksum_134 : decode cX4_checksum 134 = .ok (.aload_n 0, 1) := dk_42 (dk_at dksX4_checksum_5 17 rfl rfl)
theorem dX4_checksum_135 : decode cX4_checksum 135 = .ok (.getfield 45, 3) := dk_180 0 45 (dk_at dksX4_checksum_5 18 rfl rfl)
theorem dX4_checksum_138 : decode cX4_checksum 138 = .ok (.iload_n 3, 1) := dk_29 (dk_at dksX4_checksum_5 21 rfl rfl)
theorem dX4_checksum_139 : decode cX4_checksum 139 = .ok (.iaload, 1) := dk_46 (dk_at dksX4_checksum_5 22 rfl rfl)
theorem dX4_checksum_140 : decode cX4_checksum 140 = .ok (.i2l, 1) := dk_133 (dk_at dksX4_checksum_5 23 rfl rfl)
theorem dX4_checksum_141 : decode cX4_checksum 141 = .ok (.ladd, 1) := dk_97 (dk_at dksX4_checksum_6 0 rfl rfl)
theorem dX4_checksum_142 : decode cX4_checksum 142 = .ok (.lstore_n 1, 1) := dk_64 (dk_at dksX4_checksum_6 1 rfl rfl)
theorem dX4_checksum_143 : decode cX4_checksum 143 = .ok (.iinc 3 1, 3) := dk_132 3 1 (dk_at dksX4_checksum_6 2 rfl rfl)
theorem dX4_checksum_146 : decode cX4_checksum 146 = .ok (.goto (-25), 3) := dk_167 255 231 (dk_at dksX4_checksum_6 5 rfl rfl)
theorem dX4_checksum_149 : decode cX4_checksum 149 = .ok (.ldc2_w 180, 3) := dk_20 0 180 (dk_at dksX4_checksum_6 8 rfl rfl)
theorem dX4_checksum_152 : decode cX4_checksum 152 = .ok (.ldc2_w 180, 3) := dk_20 0 180 (dk_at dksX4_checksum_6 11 rfl rfl)
theorem dX4_checksum_155 : decode cX4_checksum 155 = .ok (.lload_n 1, 1) := dk_31 (dk_at dksX4_checksum_6 14 rfl rfl)
theorem dX4_checksum_156 : decode cX4_checksum 156 = .ok (.lmul, 1) := dk_105 (dk_at dksX4_checksum_6 15 rfl rfl)
theorem dX4_checksum_157 : decode cX4_checksum 157 = .ok (.aload_n 0, 1) := dk_42 (dk_at dksX4_checksum_6 16 rfl rfl)
theorem dX4_checksum_158 : decode cX4_checksum 158 = .ok (.getfield 16, 3) := dk_180 0 16 (dk_at dksX4_checksum_6 17 rfl rfl)
theorem dX4_checksum_161 : decode cX4_checksum 161 = .ok (.i2l, 1) := dk_133 (dk_at dksX4_checksum_6 20 rfl rfl)
theorem dX4_checksum_162 : decode cX4_checksum 162 = .ok (.ladd, 1) := dk_97 (dk_at dksX4_checksum_6 21 rfl rfl)
theorem dX4_checksum_163 : decode cX4_checksum 163 = .ok (.lmul, 1) := dk_105 (dk_at dksX4_checksum_6 22 rfl rfl)
theorem dX4_checksum_164 : decode cX4_checksum 164 = .ok (.aload_n 0, 1) := dk_42 (dk_at dksX4_checksum_6 23 rfl rfl)
theorem dX4_checksum_165 : decode cX4_checksum 165 = .ok (.getfield 19, 3) := dk_180 0 19 (dk_at dksX4_checksum_7 0 rfl rfl)
theorem dX4_checksum_168 : decode cX4_checksum 168 = .ok (.i2l, 1) := dk_133 (dk_at dksX4_checksum_7 3 rfl rfl)
theorem dX4_checksum_169 : decode cX4_checksum 169 = .ok (.ladd, 1) := dk_97 (dk_at dksX4_checksum_7 4 rfl rfl)
theorem dX4_checksum_170 : decode cX4_checksum 170 = .ok (.lstore_n 1, 1) := dk_64 (dk_at dksX4_checksum_7 5 rfl rfl)
theorem dX4_checksum_171 : decode cX4_checksum 171 = .ok (.iconst 0, 1) := dk_3 (dk_at dksX4_checksum_7 6 rfl rfl)
theorem dX4_checksum_172 : decode cX4_checksum 172 = .ok (.istore_n 3, 1) := dk_62 (dk_at dksX4_checksum_7 7 rfl rfl)
theorem dX4_checksum_173 : decode cX4_checksum 173 = .ok (.iload_n 3, 1) := dk_29 (dk_at dksX4_checksum_7 8 rfl rfl)
theorem dX4_checksum_174 : decode cX4_checksum 174 = .ok (.aload_n 0, 1) := dk_42 (dk_at dksX4_checksum_7 9 rfl rfl)
theorem dX4_checksum_175 : decode cX4_checksum 175 = .ok (.getfield 16, 3) := dk_180 0 16 (dk_at dksX4_checksum_7 10 rfl rfl)
theorem dX4_checksum_178 : decode cX4_checksum 178 = .ok (.if_icmp .ge 42, 3) := dk_162 0 42 (dk_at dksX4_checksum_7 13 rfl rfl)
theorem dX4_checksum_181 : decode cX4_checksum 181 = .ok (.iconst 0, 1) := dk_3 (dk_at dksX4_checksum_7 16 rfl rfl)
theorem dX4_checksum_182 : decode cX4_checksum 182 = .ok (.istore 4, 2) := dk_54 4 (dk_at dksX4_checksum_7 17 rfl rfl)
theorem dX4_checksum_184 : decode cX4_checksum 184 = .ok (.iload 4, 2) := dk_21 4 (dk_at dksX4_checksum_7 19 rfl rfl)
theorem dX4_checksum_186 : decode cX4_checksum 186 = .ok (.aload_n 0, 1) := dk_42 (dk_at dksX4_checksum_7 21 rfl rfl)
theorem dX4_checksum_187 : decode cX4_checksum 187 = .ok (.getfield 16, 3) := dk_180 0 16 (dk_at dksX4_checksum_8 0 rfl rfl)
theorem dX4_checksum_190 : decode cX4_checksum 190 = .ok (.if_icmp .ge 24, 3) := dk_162 0 24 (dk_at dksX4_checksum_8 3 rfl rfl)
theorem dX4_checksum_193 : decode cX4_checksum 193 = .ok (.ldc2_w 180, 3) := dk_20 0 180 (dk_at dksX4_checksum_8 6 rfl rfl)
theorem dX4_checksum_196 : decode cX4_checksum 196 = .ok (.lload_n 1, 1) := dk_31 (dk_at dksX4_checksum_8 9 rfl rfl)
theorem dX4_checksum_197 : decode cX4_checksum 197 = .ok (.lmul, 1) := dk_105 (dk_at dksX4_checksum_8 10 rfl rfl)
theorem dX4_checksum_198 : decode cX4_checksum 198 = .ok (.aload_n 0, 1) := dk_42 (dk_at dksX4_checksum_8 11 rfl rfl)
theorem dX4_checksum_199 : decode cX4_checksum 199 = .ok (.iload_n 3, 1) := dk_29 (dk_at dksX4_checksum_8 12 rfl rfl)
theorem dX4_checksum_200 : decode cX4_checksum 200 = .ok (.iload 4, 2) := dk_21 4 (dk_at dksX4_checksum_8 13 rfl rfl)
theorem dX4_checksum_202 : decode cX4_checksum 202 = .ok (.invokevirtual 156, 3) := dk_182 0 156 (dk_at dksX4_checksum_8 15 rfl rfl)
theorem dX4_checksum_205 : decode cX4_checksum 205 = .ok (.i2l, 1) := dk_133 (dk_at dksX4_checksum_8 18 rfl rfl)
theorem dX4_checksum_206 : decode cX4_checksum 206 = .ok (.ladd, 1) := dk_97 (dk_at dksX4_checksum_8 19 rfl rfl)
theorem dX4_checksum_207 : decode cX4_checksum 207 = .ok (.lstore_n 1, 1) := dk_64 (dk_at dksX4_checksum_8 20 rfl rfl)
theorem dX4_checksum_208 : decode cX4_checksum 208 = .ok (.iinc 4 1, 3) := dk_132 4 1 (dk_at dksX4_checksum_8 21 rfl rfl)
theorem dX4_checksum_211 : decode cX4_checksum 211 = .ok (.goto (-27), 3) := dk_167 255 229 (dk_at dksX4_checksum_9 0 rfl rfl)
theorem dX4_checksum_214 : decode cX4_checksum 214 = .ok (.iinc 3 1, 3) := dk_132 3 1 (dk_at dksX4_checksum_9 3 rfl rfl)
theorem dX4_checksum_217 : decode cX4_checksum 217 = .ok (.goto (-44), 3) := dk_167 255 212 (dk_at dksX4_checksum_9 6 rfl rfl)
theorem dX4_checksum_220 : decode cX4_checksum 220 = .ok (.lload_n 1, 1) := dk_31 (dk_at dksX4_checksum_9 9 rfl rfl)
theorem dX4_checksum_221 : decode cX4_checksum 221 = .ok (.lreturn, 1) := dk_173 (dk_at dksX4_checksum_9 10 rfl rfl)
abbrev cX4_isSound : ByteArray := prog_7_method_68_code
def yX4_isSound : MethodName := ⟨RX4, "isSound", "()Z"⟩
def dkwX4_isSound_8 : List UInt8 := [172]
abbrev dktX4_isSound_8 : List UInt8 := dkwX4_isSound_8 ++ []
def dkwX4_isSound_7 : List UInt8 := [180, 0, 92, 153, 0, 16, 42, 42, 180, 0, 92, 4, 100, 182, 0, 182, 154, 0, 7, 4, 167, 0, 4, 3]
abbrev dktX4_isSound_7 : List UInt8 := dkwX4_isSound_7 ++ dktX4_isSound_8
def dkwX4_isSound_6 : List UInt8 := [160, 0, 46, 29, 42, 180, 0, 80, 160, 0, 38, 42, 42, 180, 0, 92, 182, 0, 182, 153, 0, 27, 42]
abbrev dktX4_isSound_6 : List UInt8 := dkwX4_isSound_6 ++ dktX4_isSound_7
def dkwX4_isSound_5 : List UInt8 := [180, 0, 39, 3, 46, 167, 0, 9, 42, 3, 3, 182, 0, 165, 62, 28, 153, 0, 54, 27, 42, 180, 0, 80]
abbrev dktX4_isSound_5 : List UInt8 := dkwX4_isSound_5 ++ dktX4_isSound_6
def dkwX4_isSound_4 : List UInt8 := [132, 3, 1, 167, 255, 171, 42, 180, 0, 39, 3, 46, 42, 3, 3, 182, 0, 165, 162, 0, 12, 42]
abbrev dktX4_isSound_4 : List UInt8 := dkwX4_isSound_4 ++ dktX4_isSound_5
def dkwX4_isSound_3 : List UInt8 := [29, 21, 4, 182, 0, 162, 155, 0, 7, 4, 167, 0, 4, 3, 126, 61, 132, 4, 1, 167, 255, 226]
abbrev dktX4_isSound_3 : List UInt8 := dkwX4_isSound_3 ++ dktX4_isSound_4
def dkwX4_isSound_2 : List UInt8 := [154, 0, 7, 4, 167, 0, 4, 3, 126, 61, 3, 54, 4, 21, 4, 42, 180, 0, 7, 162, 0, 27, 28, 42]
abbrev dktX4_isSound_2 : List UInt8 := dkwX4_isSound_2 ++ dktX4_isSound_3
def dkwX4_isSound_1 : List UInt8 := [46, 42, 180, 0, 57, 29, 46, 96, 96, 60, 28, 42, 29, 42, 180, 0, 45, 29, 46, 182, 0, 162]
abbrev dktX4_isSound_1 : List UInt8 := dkwX4_isSound_1 ++ dktX4_isSound_2
def dkwX4_isSound_0 : List UInt8 := [42, 182, 0, 159, 3, 60, 4, 61, 3, 62, 29, 42, 180, 0, 7, 162, 0, 83, 27, 42, 180, 0, 54, 29]
abbrev dktX4_isSound_0 : List UInt8 := dkwX4_isSound_0 ++ dktX4_isSound_1
theorem dksX4_isSound_0 : cX4_isSound.data.toList.drop 0 = dktX4_isSound_0 := by decide +kernel
theorem dksX4_isSound_1 : cX4_isSound.data.toList.drop 24 = dktX4_isSound_1 := dk_seg dksX4_isSound_0 24 rfl rfl
theorem dksX4_isSound_2 : cX4_isSound.data.toList.drop 46 = dktX4_isSound_2 := dk_seg dksX4_isSound_1 22 rfl rfl
theorem dksX4_isSound_3 : cX4_isSound.data.toList.drop 70 = dktX4_isSound_3 := dk_seg dksX4_isSound_2 24 rfl rfl
theorem dksX4_isSound_4 : cX4_isSound.data.toList.drop 92 = dktX4_isSound_4 := dk_seg dksX4_isSound_3 22 rfl rfl
theorem dksX4_isSound_5 : cX4_isSound.data.toList.drop 114 = dktX4_isSound_5 := dk_seg dksX4_isSound_4 22 rfl rfl
theorem dksX4_isSound_6 : cX4_isSound.data.toList.drop 138 = dktX4_isSound_6 := dk_seg dksX4_isSound_5 24 rfl rfl
theorem dksX4_isSound_7 : cX4_isSound.data.toList.drop 161 = dktX4_isSound_7 := dk_seg dksX4_isSound_6 23 rfl rfl
theorem dksX4_isSound_8 : cX4_isSound.data.toList.drop 185 = dktX4_isSound_8 := dk_seg dksX4_isSound_7 24 rfl rfl
theorem dX4_isSound_0 : decode cX4_isSound 0 = .ok (.aload_n 0, 1) := dk_42 (dk_at dksX4_isSound_0 0 rfl rfl)
theorem dX4_isSound_1 : decode cX4_isSound 1 = .ok (.invokevirtual 159, 3) := dk_182 0 159 (dk_at dksX4_isSound_0 1 rfl rfl)
theorem dX4_isSound_4 : decode cX4_isSound 4 = .ok (.iconst 0, 1) := dk_3 (dk_at dksX4_isSound_0 4 rfl rfl)
theorem dX4_isSound_5 : decode cX4_isSound 5 = .ok (.istore_n 1, 1) := dk_60 (dk_at dksX4_isSound_0 5 rfl rfl)
theorem dX4_isSound_6 : decode cX4_isSound 6 = .ok (.iconst 1, 1) := dk_4 (dk_at dksX4_isSound_0 6 rfl rfl)
theorem dX4_isSound_7 : decode cX4_isSound 7 = .ok (.istore_n 2, 1) := dk_61 (dk_at dksX4_isSound_0 7 rfl rfl)
theorem dX4_isSound_8 : decode cX4_isSound 8 = .ok (.iconst 0, 1) := dk_3 (dk_at dksX4_isSound_0 8 rfl rfl)
theorem dX4_isSound_9 : decode cX4_isSound 9 = .ok (.istore_n 3, 1) := dk_62 (dk_at dksX4_isSound_0 9 rfl rfl)
theorem dX4_isSound_10 : decode cX4_isSound 10 = .ok (.iload_n 3, 1) := dk_29 (dk_at dksX4_isSound_0 10 rfl rfl)
theorem dX4_isSound_11 : decode cX4_isSound 11 = .ok (.aload_n 0, 1) := dk_42 (dk_at dksX4_isSound_0 11 rfl rfl)
theorem dX4_isSound_12 : decode cX4_isSound 12 = .ok (.getfield 7, 3) := dk_180 0 7 (dk_at dksX4_isSound_0 12 rfl rfl)
theorem dX4_isSound_15 : decode cX4_isSound 15 = .ok (.if_icmp .ge 83, 3) := dk_162 0 83 (dk_at dksX4_isSound_0 15 rfl rfl)
theorem dX4_isSound_18 : decode cX4_isSound 18 = .ok (.iload_n 1, 1) := dk_27 (dk_at dksX4_isSound_0 18 rfl rfl)
theorem dX4_isSound_19 : decode cX4_isSound 19 = .ok (.aload_n 0, 1) := dk_42 (dk_at dksX4_isSound_0 19 rfl rfl)
theorem dX4_isSound_20 : decode cX4_isSound 20 = .ok (.getfield 54, 3) := dk_180 0 54 (dk_at dksX4_isSound_0 20 rfl rfl)
theorem dX4_isSound_23 : decode cX4_isSound 23 = .ok (.iload_n 3, 1) := dk_29 (dk_at dksX4_isSound_0 23 rfl rfl)
theorem dX4_isSound_24 : decode cX4_isSound 24 = .ok (.iaload, 1) := dk_46 (dk_at dksX4_isSound_1 0 rfl rfl)
theorem dX4_isSound_25 : decode cX4_isSound 25 = .ok (.aload_n 0, 1) := dk_42 (dk_at dksX4_isSound_1 1 rfl rfl)
theorem dX4_isSound_26 : decode cX4_isSound 26 = .ok (.getfield 57, 3) := dk_180 0 57 (dk_at dksX4_isSound_1 2 rfl rfl)
theorem dX4_isSound_29 : decode cX4_isSound 29 = .ok (.iload_n 3, 1) := dk_29 (dk_at dksX4_isSound_1 5 rfl rfl)
theorem dX4_isSound_30 : decode cX4_isSound 30 = .ok (.iaload, 1) := dk_46 (dk_at dksX4_isSound_1 6 rfl rfl)
theorem dX4_isSound_31 : decode cX4_isSound 31 = .ok (.iadd, 1) := dk_96 (dk_at dksX4_isSound_1 7 rfl rfl)
theorem dX4_isSound_32 : decode cX4_isSound 32 = .ok (.iadd, 1) := dk_96 (dk_at dksX4_isSound_1 8 rfl rfl)
theorem dX4_isSound_33 : decode cX4_isSound 33 = .ok (.istore_n 1, 1) := dk_60 (dk_at dksX4_isSound_1 9 rfl rfl)
theorem dX4_isSound_34 : decode cX4_isSound 34 = .ok (.iload_n 2, 1) := dk_28 (dk_at dksX4_isSound_1 10 rfl rfl)
theorem dX4_isSound_35 : decode cX4_isSound 35 = .ok (.aload_n 0, 1) := dk_42 (dk_at dksX4_isSound_1 11 rfl rfl)
theorem dX4_isSound_36 : decode cX4_isSound 36 = .ok (.iload_n 3, 1) := dk_29 (dk_at dksX4_isSound_1 12 rfl rfl)
theorem dX4_isSound_37 : decode cX4_isSound 37 = .ok (.aload_n 0, 1) := dk_42 (dk_at dksX4_isSound_1 13 rfl rfl)
theorem dX4_isSound_38 : decode cX4_isSound 38 = .ok (.getfield 45, 3) := dk_180 0 45 (dk_at dksX4_isSound_1 14 rfl rfl)
theorem dX4_isSound_41 : decode cX4_isSound 41 = .ok (.iload_n 3, 1) := dk_29 (dk_at dksX4_isSound_1 17 rfl rfl)
theorem dX4_isSound_42 : decode cX4_isSound 42 = .ok (.iaload, 1) := dk_46 (dk_at dksX4_isSound_1 18 rfl rfl)
theorem dX4_isSound_43 : decode cX4_isSound 43 = .ok (.invokevirtual 162, 3) := dk_182 0 162 (dk_at dksX4_isSound_1 19 rfl rfl)
theorem dX4_isSound_46 : decode cX4_isSound 46 = .ok (.ifCond .ne 7, 3) := dk_154 0 7 (dk_at dksX4_isSound_2 0 rfl rfl)
theorem dX4_isSound_49 : decode cX4_isSound 49 = .ok (.iconst 1, 1) := dk_4 (dk_at dksX4_isSound_2 3 rfl rfl)
theorem dX4_isSound_50 : decode cX4_isSound 50 = .ok (.goto 4, 3) := dk_167 0 4 (dk_at dksX4_isSound_2 4 rfl rfl)
theorem dX4_isSound_53 : decode cX4_isSound 53 = .ok (.iconst 0, 1) := dk_3 (dk_at dksX4_isSound_2 7 rfl rfl)
theorem dX4_isSound_54 : decode cX4_isSound 54 = .ok (.iand, 1) := dk_126 (dk_at dksX4_isSound_2 8 rfl rfl)
theorem dX4_isSound_55 : decode cX4_isSound 55 = .ok (.istore_n 2, 1) := dk_61 (dk_at dksX4_isSound_2 9 rfl rfl)
theorem dX4_isSound_56 : decode cX4_isSound 56 = .ok (.iconst 0, 1) := dk_3 (dk_at dksX4_isSound_2 10 rfl rfl)
theorem dX4_isSound_57 : decode cX4_isSound 57 = .ok (.istore 4, 2) := dk_54 4 (dk_at dksX4_isSound_2 11 rfl rfl)
theorem dX4_isSound_59 : decode cX4_isSound 59 = .ok (.iload 4, 2) := dk_21 4 (dk_at dksX4_isSound_2 13 rfl rfl)
theorem dX4_isSound_61 : decode cX4_isSound 61 = .ok (.aload_n 0, 1) := dk_42 (dk_at dksX4_isSound_2 15 rfl rfl)
theorem dX4_isSound_62 : decode cX4_isSound 62 = .ok (.getfield 7, 3) := dk_180 0 7 (dk_at dksX4_isSound_2 16 rfl rfl)
theorem dX4_isSound_65 : decode cX4_isSound 65 = .ok (.if_icmp .ge 27, 3) := dk_162 0 27 (dk_at dksX4_isSound_2 19 rfl rfl)
theorem dX4_isSound_68 : decode cX4_isSound 68 = .ok (.iload_n 2, 1) := dk_28 (dk_at dksX4_isSound_2 22 rfl rfl)
theorem dX4_isSound_69 : decode cX4_isSound 69 = .ok (.aload_n 0, 1) := dk_42 (dk_at dksX4_isSound_2 23 rfl rfl)
theorem dX4_isSound_70 : decode cX4_isSound 70 = .ok (.iload_n 3, 1) := dk_29 (dk_at dksX4_isSound_3 0 rfl rfl)
theorem dX4_isSound_71 : decode cX4_isSound 71 = .ok (.iload 4, 2) := dk_21 4 (dk_at dksX4_isSound_3 1 rfl rfl)
theorem dX4_isSound_73 : decode cX4_isSound 73 = .ok (.invokevirtual 162, 3) := dk_182 0 162 (dk_at dksX4_isSound_3 3 rfl rfl)
theorem dX4_isSound_76 : decode cX4_isSound 76 = .ok (.ifCond .lt 7, 3) := dk_155 0 7 (dk_at dksX4_isSound_3 6 rfl rfl)
theorem dX4_isSound_79 : decode cX4_isSound 79 = .ok (.iconst 1, 1) := dk_4 (dk_at dksX4_isSound_3 9 rfl rfl)
theorem dX4_isSound_80 : decode cX4_isSound 80 = .ok (.goto 4, 3) := dk_167 0 4 (dk_at dksX4_isSound_3 10 rfl rfl)
theorem dX4_isSound_83 : decode cX4_isSound 83 = .ok (.iconst 0, 1) := dk_3 (dk_at dksX4_isSound_3 13 rfl rfl)
theorem dX4_isSound_84 : decode cX4_isSound 84 = .ok (.iand, 1) := dk_126 (dk_at dksX4_isSound_3 14 rfl rfl)
theorem dX4_isSound_85 : decode cX4_isSound 85 = .ok (.istore_n 2, 1) := dk_61 (dk_at dksX4_isSound_3 15 rfl rfl)
theorem dX4_isSound_86 : decode cX4_isSound 86 = .ok (.iinc 4 1, 3) := dk_132 4 1 (dk_at dksX4_isSound_3 16 rfl rfl)
theorem dX4_isSound_89 : decode cX4_isSound 89 = .ok (.goto (-30), 3) := dk_167 255 226 (dk_at dksX4_isSound_3 19 rfl rfl)
theorem dX4_isSound_92 : decode cX4_isSound 92 = .ok (.iinc 3 1, 3) := dk_132 3 1 (dk_at dksX4_isSound_4 0 rfl rfl)
theorem dX4_isSound_95 : decode cX4_isSound 95 = .ok (.goto (-85), 3) := dk_167 255 171 (dk_at dksX4_isSound_4 3 rfl rfl)
theorem dX4_isSound_98 : decode cX4_isSound 98 = .ok (.aload_n 0, 1) := dk_42 (dk_at dksX4_isSound_4 6 rfl rfl)
theorem dX4_isSound_99 : decode cX4_isSound 99 = .ok (.getfield 39, 3) := dk_180 0 39 (dk_at dksX4_isSound_4 7 rfl rfl)
theorem dX4_isSound_102 : decode cX4_isSound 102 = .ok (.iconst 0, 1) := dk_3 (dk_at dksX4_isSound_4 10 rfl rfl)
theorem dX4_isSound_103 : decode cX4_isSound 103 = .ok (.iaload, 1) := dk_46 (dk_at dksX4_isSound_4 11 rfl rfl)
theorem dX4_isSound_104 : decode cX4_isSound 104 = .ok (.aload_n 0, 1) := dk_42 (dk_at dksX4_isSound_4 12 rfl rfl)
theorem dX4_isSound_105 : decode cX4_isSound 105 = .ok (.iconst 0, 1) := dk_3 (dk_at dksX4_isSound_4 13 rfl rfl)
theorem dX4_isSound_106 : decode cX4_isSound 106 = .ok (.iconst 0, 1) := dk_3 (dk_at dksX4_isSound_4 14 rfl rfl)
theorem dX4_isSound_107 : decode cX4_isSound 107 = .ok (.invokevirtual 165, 3) := dk_182 0 165 (dk_at dksX4_isSound_4 15 rfl rfl)
theorem dX4_isSound_110 : decode cX4_isSound 110 = .ok (.if_icmp .ge 12, 3) := dk_162 0 12 (dk_at dksX4_isSound_4 18 rfl rfl)
theorem dX4_isSound_113 : decode cX4_isSound 113 = .ok (.aload_n 0, 1) := dk_42 (dk_at dksX4_isSound_4 21 rfl rfl)
theorem dX4_isSound_114 : decode cX4_isSound 114 = .ok (.getfield 39, 3) := dk_180 0 39 (dk_at dksX4_isSound_5 0 rfl rfl)
theorem dX4_isSound_117 : decode cX4_isSound 117 = .ok (.iconst 0, 1) := dk_3 (dk_at dksX4_isSound_5 3 rfl rfl)
theorem dX4_isSound_118 : decode cX4_isSound 118 = .ok (.iaload, 1) := dk_46 (dk_at dksX4_isSound_5 4 rfl rfl)
theorem dX4_isSound_119 : decode cX4_isSound 119 = .ok (.goto 9, 3) := dk_167 0 9 (dk_at dksX4_isSound_5 5 rfl rfl)
theorem dX4_isSound_122 : decode cX4_isSound 122 = .ok (.aload_n 0, 1) := dk_42 (dk_at dksX4_isSound_5 8 rfl rfl)
theorem dX4_isSound_123 : decode cX4_isSound 123 = .ok (.iconst 0, 1) := dk_3 (dk_at dksX4_isSound_5 9 rfl rfl)
theorem dX4_isSound_124 : decode cX4_isSound 124 = .ok (.iconst 0, 1) := dk_3 (dk_at dksX4_isSound_5 10 rfl rfl)
theorem dX4_isSound_125 : decode cX4_isSound 125 = .ok (.invokevirtual 165, 3) := dk_182 0 165 (dk_at dksX4_isSound_5 11 rfl rfl)
theorem dX4_isSound_128 : decode cX4_isSound 128 = .ok (.istore_n 3, 1) := dk_62 (dk_at dksX4_isSound_5 14 rfl rfl)
theorem dX4_isSound_129 : decode cX4_isSound 129 = .ok (.iload_n 2, 1) := dk_28 (dk_at dksX4_isSound_5 15 rfl rfl)
theorem dX4_isSound_130 : decode cX4_isSound 130 = .ok (.ifCond .eq 54, 3) := dk_153 0 54 (dk_at dksX4_isSound_5 16 rfl rfl)
theorem dX4_isSound_133 : decode cX4_isSound 133 = .ok (.iload_n 1, 1) := dk_27 (dk_at dksX4_isSound_5 19 rfl rfl)
theorem dX4_isSound_134 : decode cX4_isSound 134 = .ok (.aload_n 0, 1) := dk_42 (dk_at dksX4_isSound_5 20 rfl rfl)
theorem dX4_isSound_135 : decode cX4_isSound 135 = .ok (.getfield 80, 3) := dk_180 0 80 (dk_at dksX4_isSound_5 21 rfl rfl)
theorem dX4_isSound_138 : decode cX4_isSound 138 = .ok (.if_icmp .ne 46, 3) := dk_160 0 46 (dk_at dksX4_isSound_6 0 rfl rfl)
theorem dX4_isSound_141 : decode cX4_isSound 141 = .ok (.iload_n 3, 1) := dk_29 (dk_at dksX4_isSound_6 3 rfl rfl)
theorem dX4_isSound_142 : decode cX4_isSound 142 = .ok (.aload_n 0, 1) := dk_42 (dk_at dksX4_isSound_6 4 rfl rfl)
theorem dX4_isSound_143 : decode cX4_isSound 143 = .ok (.getfield 80, 3) := dk_180 0 80 (dk_at dksX4_isSound_6 5 rfl rfl)
theorem dX4_isSound_146 : decode cX4_isSound 146 = .ok (.if_icmp .ne 38, 3) := dk_160 0 38 (dk_at dksX4_isSound_6 8 rfl rfl)
theorem dX4_isSound_149 : decode cX4_isSound 149 = .ok (.aload_n 0, 1) := dk_42 (dk_at dksX4_isSound_6 11 rfl rfl)
theorem dX4_isSound_150 : decode cX4_isSound 150 = .ok (.aload_n 0, 1) := dk_42 (dk_at dksX4_isSound_6 12 rfl rfl)
theorem dX4_isSound_151 : decode cX4_isSound 151 = .ok (.getfield 92, 3) := dk_180 0 92 (dk_at dksX4_isSound_6 13 rfl rfl)
theorem dX4_isSound_154 : decode cX4_isSound 154 = .ok (.invokevirtual 182, 3) := dk_182 0 182 (dk_at dksX4_isSound_6 16 rfl rfl)
theorem dX4_isSound_157 : decode cX4_isSound 157 = .ok (.ifCond .eq 27, 3) := dk_153 0 27 (dk_at dksX4_isSound_6 19 rfl rfl)
theorem dX4_isSound_160 : decode cX4_isSound 160 = .ok (.aload_n 0, 1) := dk_42 (dk_at dksX4_isSound_6 22 rfl rfl)
theorem dX4_isSound_161 : decode cX4_isSound 161 = .ok (.getfield 92, 3) := dk_180 0 92 (dk_at dksX4_isSound_7 0 rfl rfl)
theorem dX4_isSound_164 : decode cX4_isSound 164 = .ok (.ifCond .eq 16, 3) := dk_153 0 16 (dk_at dksX4_isSound_7 3 rfl rfl)
theorem dX4_isSound_167 : decode cX4_isSound 167 = .ok (.aload_n 0, 1) := dk_42 (dk_at dksX4_isSound_7 6 rfl rfl)
theorem dX4_isSound_168 : decode cX4_isSound 168 = .ok (.aload_n 0, 1) := dk_42 (dk_at dksX4_isSound_7 7 rfl rfl)
theorem dX4_isSound_169 : decode cX4_isSound 169 = .ok (.getfield 92, 3) := dk_180 0 92 (dk_at dksX4_isSound_7 8 rfl rfl)
theorem dX4_isSound_172 : decode cX4_isSound 172 = .ok (.iconst 1, 1) := dk_4 (dk_at dksX4_isSound_7 11 rfl rfl)
theorem dX4_isSound_173 : decode cX4_isSound 173 = .ok (.isub, 1) := dk_100 (dk_at dksX4_isSound_7 12 rfl rfl)
theorem dX4_isSound_174 : decode cX4_isSound 174 = .ok (.invokevirtual 182, 3) := dk_182 0 182 (dk_at dksX4_isSound_7 13 rfl rfl)
theorem dX4_isSound_177 : decode cX4_isSound 177 = .ok (.ifCond .ne 7, 3) := dk_154 0 7 (dk_at dksX4_isSound_7 16 rfl rfl)
theorem dX4_isSound_180 : decode cX4_isSound 180 = .ok (.iconst 1, 1) := dk_4 (dk_at dksX4_isSound_7 19 rfl rfl)
theorem dX4_isSound_181 : decode cX4_isSound 181 = .ok (.goto 4, 3) := dk_167 0 4 (dk_at dksX4_isSound_7 20 rfl rfl)
theorem dX4_isSound_184 : decode cX4_isSound 184 = .ok (.iconst 0, 1) := dk_3 (dk_at dksX4_isSound_7 23 rfl rfl)
theorem dX4_isSound_185 : decode cX4_isSound 185 = .ok (.ireturn, 1) := dk_172 (dk_at dksX4_isSound_8 0 rfl rfl)
theorem q75 : (Jvm.Cond.initialized "ChoreAssignmentModel") ∈ lw_all := lw_g (lw_at lw_m1 20 rfl) rfl
theorem q190 : (Jvm.Cond.selects "ChoreAssignmentModel" ({ cls := "java/lang/Object", name := "getClass", desc := "()Ljava/lang/Class;" } : Jvm.MethodName) ({ cls := "java/lang/Object", name := "getClass", desc := "()Ljava/lang/Class;" } : Jvm.MethodName)) ∈ lw_all := lw_g (lw_at lw_m1 135 rfl) rfl
theorem q1513 : (Jvm.Cond.instantiable "ChoreAssignmentModel" (24 : Nat)) ∈ lw_all := lw_g (lw_at lw_m7 18 rfl) rfl
theorem q1515 : (Jvm.Cond.instanceMethod ({ cls := "ChoreAssignmentModel", name := "<init>", desc := "()V" } : Jvm.MethodName)) ∈ lw_all := lw_g (lw_at lw_m7 20 rfl) rfl
theorem q1516 : (Jvm.Cond.code ({ cls := "ChoreAssignmentModel", name := "<init>", desc := "()V" } : Jvm.MethodName) prog_7_method_1_code (1 : Nat) (Option.none : Option Jvm.ClassFile.FieldType)) ∈ lw_all := lw_g (lw_at lw_m7 21 rfl) rfl
theorem q1517 : (Jvm.Cond.methodLink "ChoreAssignmentModel" (1 : Nat) ({ cls := "java/lang/Object", name := "<init>", desc := "()V" } : Jvm.MethodName)) ∈ lw_all := lw_g (lw_at lw_m7 22 rfl) rfl
theorem q1518 : (Jvm.Cond.fieldLink "ChoreAssignmentModel" (7 : Nat) "ChoreAssignmentModel" "n" "I") ∈ lw_all := lw_g (lw_at lw_m7 23 rfl) rfl
theorem q1519 : (Jvm.Cond.fieldLink "ChoreAssignmentModel" (13 : Nat) "ChoreAssignmentModel" "m" "I") ∈ lw_all := lw_g (lw_at lw_m7 24 rfl) rfl
theorem q1520 : (Jvm.Cond.fieldLink "ChoreAssignmentModel" (16 : Nat) "ChoreAssignmentModel" "savedN" "I") ∈ lw_all := lw_g (lw_at lw_m7 25 rfl) rfl
theorem q1521 : (Jvm.Cond.fieldLink "ChoreAssignmentModel" (19 : Nat) "ChoreAssignmentModel" "savedM" "I") ∈ lw_all := lw_g (lw_at lw_m7 26 rfl) rfl
theorem q1522 : (Jvm.Cond.fieldLink "ChoreAssignmentModel" (60 : Nat) "ChoreAssignmentModel" "thrown" "I") ∈ lw_all := lw_g (lw_at lw_m7 27 rfl) rfl
theorem q1523 : (Jvm.Cond.fieldLink "ChoreAssignmentModel" (22 : Nat) "ChoreAssignmentModel" "number" "[I") ∈ lw_all := lw_g (lw_at lw_m7 28 rfl) rfl
theorem q1524 : (Jvm.Cond.fieldLink "ChoreAssignmentModel" (26 : Nat) "ChoreAssignmentModel" "savedNumber" "[I") ∈ lw_all := lw_g (lw_at lw_m7 29 rfl) rfl
theorem q1525 : (Jvm.Cond.fieldLink "ChoreAssignmentModel" (29 : Nat) "ChoreAssignmentModel" "isForbidden" "[Z") ∈ lw_all := lw_g (lw_at lw_m7 30 rfl) rfl
theorem q1526 : (Jvm.Cond.fieldLink "ChoreAssignmentModel" (33 : Nat) "ChoreAssignmentModel" "savedForbidden" "[Z") ∈ lw_all := lw_g (lw_at lw_m7 31 rfl) rfl
theorem q1527 : (Jvm.Cond.fieldLink "ChoreAssignmentModel" (36 : Nat) "ChoreAssignmentModel" "costs" "[I") ∈ lw_all := lw_g (lw_at lw_m7 32 rfl) rfl
theorem q1528 : (Jvm.Cond.fieldLink "ChoreAssignmentModel" (39 : Nat) "ChoreAssignmentModel" "with" "[I") ∈ lw_all := lw_g (lw_at lw_m7 33 rfl) rfl
theorem q1529 : (Jvm.Cond.fieldLink "ChoreAssignmentModel" (42 : Nat) "ChoreAssignmentModel" "p" "[I") ∈ lw_all := lw_g (lw_at lw_m7 34 rfl) rfl
theorem q1530 : (Jvm.Cond.fieldLink "ChoreAssignmentModel" (45 : Nat) "ChoreAssignmentModel" "first" "[I") ∈ lw_all := lw_g (lw_at lw_m7 35 rfl) rfl
theorem q1531 : (Jvm.Cond.fieldLink "ChoreAssignmentModel" (80 : Nat) "ChoreAssignmentModel" "least" "I") ∈ lw_all := lw_g (lw_at lw_m7 36 rfl) rfl
theorem q1532 : (Jvm.Cond.fieldLink "ChoreAssignmentModel" (83 : Nat) "ChoreAssignmentModel" "leastMany" "I") ∈ lw_all := lw_g (lw_at lw_m7 37 rfl) rfl
theorem q1533 : (Jvm.Cond.fieldLink "ChoreAssignmentModel" (86 : Nat) "ChoreAssignmentModel" "second" "I") ∈ lw_all := lw_g (lw_at lw_m7 38 rfl) rfl
theorem q1534 : (Jvm.Cond.fieldLink "ChoreAssignmentModel" (89 : Nat) "ChoreAssignmentModel" "greatest" "I") ∈ lw_all := lw_g (lw_at lw_m7 39 rfl) rfl
theorem q1535 : (Jvm.Cond.fieldLink "ChoreAssignmentModel" (92 : Nat) "ChoreAssignmentModel" "narrowest" "I") ∈ lw_all := lw_g (lw_at lw_m7 40 rfl) rfl
theorem q1536 : (Jvm.Cond.fieldLink "ChoreAssignmentModel" (48 : Nat) "ChoreAssignmentModel" "steps" "I") ∈ lw_all := lw_g (lw_at lw_m7 41 rfl) rfl
theorem q1537 : (Jvm.Cond.fieldLink "ChoreAssignmentModel" (172 : Nat) "ChoreAssignmentModel" "lastSum" "I") ∈ lw_all := lw_g (lw_at lw_m7 42 rfl) rfl
theorem q1538 : (Jvm.Cond.fieldLink "ChoreAssignmentModel" (175 : Nat) "ChoreAssignmentModel" "lastPlace" "I") ∈ lw_all := lw_g (lw_at lw_m7 43 rfl) rfl
theorem q1539 : (Jvm.Cond.fieldLink "ChoreAssignmentModel" (51 : Nat) "ChoreAssignmentModel" "current" "[I") ∈ lw_all := lw_g (lw_at lw_m7 44 rfl) rfl
theorem q1540 : (Jvm.Cond.fieldLink "ChoreAssignmentModel" (54 : Nat) "ChoreAssignmentModel" "rowPotentials" "[I") ∈ lw_all := lw_g (lw_at lw_m7 45 rfl) rfl
theorem q1541 : (Jvm.Cond.fieldLink "ChoreAssignmentModel" (57 : Nat) "ChoreAssignmentModel" "columnPotentials" "[I") ∈ lw_all := lw_g (lw_at lw_m7 46 rfl) rfl
theorem q1542 : (Jvm.Cond.lays "ChoreAssignmentModel" "ChoreAssignmentModel" "n" "I") ∈ lw_all := lw_g (lw_at lw_m7 47 rfl) rfl
theorem q1543 : (Jvm.Cond.soleField "ChoreAssignmentModel" "n") ∈ lw_all := lw_g (lw_at lw_m7 48 rfl) rfl
theorem q1544 : (Jvm.Cond.lays "ChoreAssignmentModel" "ChoreAssignmentModel" "m" "I") ∈ lw_all := lw_g (lw_at lw_m7 49 rfl) rfl
theorem q1545 : (Jvm.Cond.soleField "ChoreAssignmentModel" "m") ∈ lw_all := lw_g (lw_at lw_m7 50 rfl) rfl
theorem q1546 : (Jvm.Cond.lays "ChoreAssignmentModel" "ChoreAssignmentModel" "savedN" "I") ∈ lw_all := lw_g (lw_at lw_m7 51 rfl) rfl
theorem q1547 : (Jvm.Cond.soleField "ChoreAssignmentModel" "savedN") ∈ lw_all := lw_g (lw_at lw_m7 52 rfl) rfl
theorem q1548 : (Jvm.Cond.lays "ChoreAssignmentModel" "ChoreAssignmentModel" "savedM" "I") ∈ lw_all := lw_g (lw_at lw_m7 53 rfl) rfl
theorem q1549 : (Jvm.Cond.soleField "ChoreAssignmentModel" "savedM") ∈ lw_all := lw_g (lw_at lw_m7 54 rfl) rfl
theorem q1550 : (Jvm.Cond.lays "ChoreAssignmentModel" "ChoreAssignmentModel" "thrown" "I") ∈ lw_all := lw_g (lw_at lw_m7 55 rfl) rfl
theorem q1551 : (Jvm.Cond.soleField "ChoreAssignmentModel" "thrown") ∈ lw_all := lw_g (lw_at lw_m7 56 rfl) rfl
theorem q1552 : (Jvm.Cond.laysFinal "ChoreAssignmentModel" "ChoreAssignmentModel" "number" "[I") ∈ lw_all := lw_g (lw_at lw_m7 57 rfl) rfl
theorem q1553 : (Jvm.Cond.soleField "ChoreAssignmentModel" "number") ∈ lw_all := lw_g (lw_at lw_m7 58 rfl) rfl
theorem q1554 : (Jvm.Cond.laysFinal "ChoreAssignmentModel" "ChoreAssignmentModel" "savedNumber" "[I") ∈ lw_all := lw_g (lw_at lw_m7 59 rfl) rfl
theorem q1555 : (Jvm.Cond.soleField "ChoreAssignmentModel" "savedNumber") ∈ lw_all := lw_g (lw_at lw_m7 60 rfl) rfl
theorem q1556 : (Jvm.Cond.laysFinal "ChoreAssignmentModel" "ChoreAssignmentModel" "isForbidden" "[Z") ∈ lw_all := lw_g (lw_at lw_m7 61 rfl) rfl
theorem q1557 : (Jvm.Cond.soleField "ChoreAssignmentModel" "isForbidden") ∈ lw_all := lw_g (lw_at lw_m7 62 rfl) rfl
theorem q1558 : (Jvm.Cond.laysFinal "ChoreAssignmentModel" "ChoreAssignmentModel" "savedForbidden" "[Z") ∈ lw_all := lw_g (lw_at lw_m7 63 rfl) rfl
theorem q1559 : (Jvm.Cond.soleField "ChoreAssignmentModel" "savedForbidden") ∈ lw_all := lw_g (lw_at lw_m7 64 rfl) rfl
theorem q1560 : (Jvm.Cond.laysFinal "ChoreAssignmentModel" "ChoreAssignmentModel" "costs" "[I") ∈ lw_all := lw_g (lw_at lw_m7 65 rfl) rfl
theorem q1561 : (Jvm.Cond.soleField "ChoreAssignmentModel" "costs") ∈ lw_all := lw_g (lw_at lw_m7 66 rfl) rfl
theorem q1562 : (Jvm.Cond.laysFinal "ChoreAssignmentModel" "ChoreAssignmentModel" "with" "[I") ∈ lw_all := lw_g (lw_at lw_m7 67 rfl) rfl
theorem q1563 : (Jvm.Cond.soleField "ChoreAssignmentModel" "with") ∈ lw_all := lw_g (lw_at lw_m7 68 rfl) rfl
theorem q1564 : (Jvm.Cond.laysFinal "ChoreAssignmentModel" "ChoreAssignmentModel" "p" "[I") ∈ lw_all := lw_g (lw_at lw_m7 69 rfl) rfl
theorem q1565 : (Jvm.Cond.soleField "ChoreAssignmentModel" "p") ∈ lw_all := lw_g (lw_at lw_m7 70 rfl) rfl
theorem q1566 : (Jvm.Cond.laysFinal "ChoreAssignmentModel" "ChoreAssignmentModel" "first" "[I") ∈ lw_all := lw_g (lw_at lw_m7 71 rfl) rfl
theorem q1567 : (Jvm.Cond.soleField "ChoreAssignmentModel" "first") ∈ lw_all := lw_g (lw_at lw_m7 72 rfl) rfl
theorem q1568 : (Jvm.Cond.lays "ChoreAssignmentModel" "ChoreAssignmentModel" "least" "I") ∈ lw_all := lw_g (lw_at lw_m7 73 rfl) rfl
theorem q1569 : (Jvm.Cond.soleField "ChoreAssignmentModel" "least") ∈ lw_all := lw_g (lw_at lw_m7 74 rfl) rfl
theorem q1570 : (Jvm.Cond.lays "ChoreAssignmentModel" "ChoreAssignmentModel" "leastMany" "I") ∈ lw_all := lw_g (lw_at lw_m7 75 rfl) rfl
theorem q1571 : (Jvm.Cond.soleField "ChoreAssignmentModel" "leastMany") ∈ lw_all := lw_g (lw_at lw_m7 76 rfl) rfl
theorem q1572 : (Jvm.Cond.lays "ChoreAssignmentModel" "ChoreAssignmentModel" "second" "I") ∈ lw_all := lw_g (lw_at lw_m7 77 rfl) rfl
theorem q1573 : (Jvm.Cond.soleField "ChoreAssignmentModel" "second") ∈ lw_all := lw_g (lw_at lw_m7 78 rfl) rfl
theorem q1574 : (Jvm.Cond.lays "ChoreAssignmentModel" "ChoreAssignmentModel" "greatest" "I") ∈ lw_all := lw_g (lw_at lw_m7 79 rfl) rfl
theorem q1575 : (Jvm.Cond.soleField "ChoreAssignmentModel" "greatest") ∈ lw_all := lw_g (lw_at lw_m7 80 rfl) rfl
theorem q1576 : (Jvm.Cond.lays "ChoreAssignmentModel" "ChoreAssignmentModel" "narrowest" "I") ∈ lw_all := lw_g (lw_at lw_m7 81 rfl) rfl
theorem q1577 : (Jvm.Cond.soleField "ChoreAssignmentModel" "narrowest") ∈ lw_all := lw_g (lw_at lw_m7 82 rfl) rfl
theorem q1578 : (Jvm.Cond.lays "ChoreAssignmentModel" "ChoreAssignmentModel" "steps" "I") ∈ lw_all := lw_g (lw_at lw_m7 83 rfl) rfl
theorem q1579 : (Jvm.Cond.soleField "ChoreAssignmentModel" "steps") ∈ lw_all := lw_g (lw_at lw_m7 84 rfl) rfl
theorem q1580 : (Jvm.Cond.lays "ChoreAssignmentModel" "ChoreAssignmentModel" "lastSum" "I") ∈ lw_all := lw_g (lw_at lw_m7 85 rfl) rfl
theorem q1581 : (Jvm.Cond.soleField "ChoreAssignmentModel" "lastSum") ∈ lw_all := lw_g (lw_at lw_m7 86 rfl) rfl
theorem q1582 : (Jvm.Cond.lays "ChoreAssignmentModel" "ChoreAssignmentModel" "lastPlace" "I") ∈ lw_all := lw_g (lw_at lw_m7 87 rfl) rfl
theorem q1583 : (Jvm.Cond.soleField "ChoreAssignmentModel" "lastPlace") ∈ lw_all := lw_g (lw_at lw_m7 88 rfl) rfl
theorem q1584 : (Jvm.Cond.laysFinal "ChoreAssignmentModel" "ChoreAssignmentModel" "current" "[I") ∈ lw_all := lw_g (lw_at lw_m7 89 rfl) rfl
theorem q1585 : (Jvm.Cond.soleField "ChoreAssignmentModel" "current") ∈ lw_all := lw_g (lw_at lw_m7 90 rfl) rfl
theorem q1586 : (Jvm.Cond.laysFinal "ChoreAssignmentModel" "ChoreAssignmentModel" "rowPotentials" "[I") ∈ lw_all := lw_g (lw_at lw_m7 91 rfl) rfl
theorem q1587 : (Jvm.Cond.soleField "ChoreAssignmentModel" "rowPotentials") ∈ lw_all := lw_g (lw_at lw_m7 92 rfl) rfl
theorem q1588 : (Jvm.Cond.laysFinal "ChoreAssignmentModel" "ChoreAssignmentModel" "columnPotentials" "[I") ∈ lw_all := lw_g (lw_at lw_m7 93 rfl) rfl
theorem q1589 : (Jvm.Cond.soleField "ChoreAssignmentModel" "columnPotentials") ∈ lw_all := lw_g (lw_at lw_m7 94 rfl) rfl
theorem q1590 : (Jvm.Cond.superclass "ChoreAssignmentModel" "java/lang/Object") ∈ lw_all := lw_g (lw_at lw_m7 95 rfl) rfl
theorem q1592 : (Jvm.Cond.instanceMethod ({ cls := "ChoreAssignmentModel", name := "thrown", desc := "()I" } : Jvm.MethodName)) ∈ lw_all := lw_g (lw_at lw_m7 97 rfl) rfl
theorem q1593 : (Jvm.Cond.selects "ChoreAssignmentModel" ({ cls := "ChoreAssignmentModel", name := "thrown", desc := "()I" } : Jvm.MethodName) ({ cls := "ChoreAssignmentModel", name := "thrown", desc := "()I" } : Jvm.MethodName)) ∈ lw_all := lw_g (lw_at lw_m7 98 rfl) rfl
theorem q1594 : (Jvm.Cond.code ({ cls := "ChoreAssignmentModel", name := "thrown", desc := "()I" } : Jvm.MethodName) prog_7_method_2_code (1 : Nat) (Option.some Jvm.ClassFile.FieldType.int)) ∈ lw_all := lw_g (lw_at lw_m7 99 rfl) rfl
theorem q1596 : (Jvm.Cond.instanceMethod ({ cls := "ChoreAssignmentModel", name := "resize", desc := "(II)I" } : Jvm.MethodName)) ∈ lw_all := lw_g (lw_at lw_m7 101 rfl) rfl
theorem q1597 : (Jvm.Cond.selects "ChoreAssignmentModel" ({ cls := "ChoreAssignmentModel", name := "resize", desc := "(II)I" } : Jvm.MethodName) ({ cls := "ChoreAssignmentModel", name := "resize", desc := "(II)I" } : Jvm.MethodName)) ∈ lw_all := lw_g (lw_at lw_m7 102 rfl) rfl
theorem q1598 : (Jvm.Cond.code ({ cls := "ChoreAssignmentModel", name := "resize", desc := "(II)I" } : Jvm.MethodName) prog_7_method_21_code (4 : Nat) (Option.some Jvm.ClassFile.FieldType.int)) ∈ lw_all := lw_g (lw_at lw_m7 103 rfl) rfl
theorem q1599 : (Jvm.Cond.constantLong "ChoreAssignmentModel" (116 : Nat) (7 : Int64)) ∈ lw_all := lw_g (lw_at lw_m7 104 rfl) rfl
theorem q1600 : (Jvm.Cond.methodLink "ChoreAssignmentModel" (63 : Nat) ({ cls := "ChoreAssignmentModel", name := "isIn", desc := "(JJJ)Z" } : Jvm.MethodName)) ∈ lw_all := lw_g (lw_at lw_m7 105 rfl) rfl
theorem q1601 : (Jvm.Cond.static ({ cls := "ChoreAssignmentModel", name := "isIn", desc := "(JJJ)Z" } : Jvm.MethodName)) ∈ lw_all := lw_g (lw_at lw_m7 106 rfl) rfl
theorem q1602 : (Jvm.Cond.code ({ cls := "ChoreAssignmentModel", name := "isIn", desc := "(JJJ)Z" } : Jvm.MethodName) prog_7_method_4_code (6 : Nat) (Option.some Jvm.ClassFile.FieldType.boolean)) ∈ lw_all := lw_g (lw_at lw_m7 107 rfl) rfl
theorem q1603 : (Jvm.Cond.methodLink "ChoreAssignmentModel" (118 : Nat) ({ cls := "ChoreAssignmentModel", name := "isWrong", desc := "(I)Z" } : Jvm.MethodName)) ∈ lw_all := lw_g (lw_at lw_m7 108 rfl) rfl
theorem q1604 : (Jvm.Cond.privateMethod ({ cls := "ChoreAssignmentModel", name := "isWrong", desc := "(I)Z" } : Jvm.MethodName)) ∈ lw_tbl := lw_at lw_m7 109 rfl
theorem q1605 : (Jvm.Cond.instanceMethod ({ cls := "ChoreAssignmentModel", name := "isWrong", desc := "(I)Z" } : Jvm.MethodName)) ∈ lw_all := lw_g (lw_at lw_m7 110 rfl) rfl
theorem q1606 : (Jvm.Cond.code ({ cls := "ChoreAssignmentModel", name := "isWrong", desc := "(I)Z" } : Jvm.MethodName) prog_7_method_3_code (2 : Nat) (Option.some Jvm.ClassFile.FieldType.boolean)) ∈ lw_all := lw_g (lw_at lw_m7 111 rfl) rfl
theorem q1608 : (Jvm.Cond.instanceMethod ({ cls := "ChoreAssignmentModel", name := "setCost", desc := "(III)I" } : Jvm.MethodName)) ∈ lw_all := lw_g (lw_at lw_m7 113 rfl) rfl
theorem q1609 : (Jvm.Cond.selects "ChoreAssignmentModel" ({ cls := "ChoreAssignmentModel", name := "setCost", desc := "(III)I" } : Jvm.MethodName) ({ cls := "ChoreAssignmentModel", name := "setCost", desc := "(III)I" } : Jvm.MethodName)) ∈ lw_all := lw_g (lw_at lw_m7 114 rfl) rfl
theorem q1610 : (Jvm.Cond.code ({ cls := "ChoreAssignmentModel", name := "setCost", desc := "(III)I" } : Jvm.MethodName) prog_7_method_22_code (5 : Nat) (Option.some Jvm.ClassFile.FieldType.int)) ∈ lw_all := lw_g (lw_at lw_m7 115 rfl) rfl
theorem q1611 : (Jvm.Cond.methodLink "ChoreAssignmentModel" (122 : Nat) ({ cls := "ChoreAssignmentModel", name := "isRow", desc := "(I)Z" } : Jvm.MethodName)) ∈ lw_all := lw_g (lw_at lw_m7 116 rfl) rfl
theorem q1612 : (Jvm.Cond.privateMethod ({ cls := "ChoreAssignmentModel", name := "isRow", desc := "(I)Z" } : Jvm.MethodName)) ∈ lw_tbl := lw_at lw_m7 117 rfl
theorem q1613 : (Jvm.Cond.instanceMethod ({ cls := "ChoreAssignmentModel", name := "isRow", desc := "(I)Z" } : Jvm.MethodName)) ∈ lw_all := lw_g (lw_at lw_m7 118 rfl) rfl
theorem q1614 : (Jvm.Cond.code ({ cls := "ChoreAssignmentModel", name := "isRow", desc := "(I)Z" } : Jvm.MethodName) prog_7_method_5_code (2 : Nat) (Option.some Jvm.ClassFile.FieldType.boolean)) ∈ lw_all := lw_g (lw_at lw_m7 119 rfl) rfl
theorem q1615 : (Jvm.Cond.methodLink "ChoreAssignmentModel" (125 : Nat) ({ cls := "ChoreAssignmentModel", name := "isReal", desc := "(I)Z" } : Jvm.MethodName)) ∈ lw_all := lw_g (lw_at lw_m7 120 rfl) rfl
theorem q1616 : (Jvm.Cond.privateMethod ({ cls := "ChoreAssignmentModel", name := "isReal", desc := "(I)Z" } : Jvm.MethodName)) ∈ lw_tbl := lw_at lw_m7 121 rfl
theorem q1617 : (Jvm.Cond.instanceMethod ({ cls := "ChoreAssignmentModel", name := "isReal", desc := "(I)Z" } : Jvm.MethodName)) ∈ lw_all := lw_g (lw_at lw_m7 122 rfl) rfl
theorem q1618 : (Jvm.Cond.code ({ cls := "ChoreAssignmentModel", name := "isReal", desc := "(I)Z" } : Jvm.MethodName) prog_7_method_6_code (2 : Nat) (Option.some Jvm.ClassFile.FieldType.boolean)) ∈ lw_all := lw_g (lw_at lw_m7 123 rfl) rfl
theorem q1619 : (Jvm.Cond.constantLong "ChoreAssignmentModel" (128 : Nat) (99 : Int64)) ∈ lw_all := lw_g (lw_at lw_m7 124 rfl) rfl
theorem q1621 : (Jvm.Cond.instanceMethod ({ cls := "ChoreAssignmentModel", name := "setRow", desc := "(IJ)I" } : Jvm.MethodName)) ∈ lw_all := lw_g (lw_at lw_m7 126 rfl) rfl
theorem q1622 : (Jvm.Cond.selects "ChoreAssignmentModel" ({ cls := "ChoreAssignmentModel", name := "setRow", desc := "(IJ)I" } : Jvm.MethodName) ({ cls := "ChoreAssignmentModel", name := "setRow", desc := "(IJ)I" } : Jvm.MethodName)) ∈ lw_all := lw_g (lw_at lw_m7 127 rfl) rfl
theorem q1623 : (Jvm.Cond.code ({ cls := "ChoreAssignmentModel", name := "setRow", desc := "(IJ)I" } : Jvm.MethodName) prog_7_method_23_code (11 : Nat) (Option.some Jvm.ClassFile.FieldType.int)) ∈ lw_all := lw_g (lw_at lw_m7 128 rfl) rfl
theorem q1624 : (Jvm.Cond.constantLong "ChoreAssignmentModel" (130 : Nat) (100 : Int64)) ∈ lw_all := lw_g (lw_at lw_m7 129 rfl) rfl
theorem q1626 : (Jvm.Cond.instanceMethod ({ cls := "ChoreAssignmentModel", name := "fill", desc := "(II)I" } : Jvm.MethodName)) ∈ lw_all := lw_g (lw_at lw_m7 131 rfl) rfl
theorem q1627 : (Jvm.Cond.selects "ChoreAssignmentModel" ({ cls := "ChoreAssignmentModel", name := "fill", desc := "(II)I" } : Jvm.MethodName) ({ cls := "ChoreAssignmentModel", name := "fill", desc := "(II)I" } : Jvm.MethodName)) ∈ lw_all := lw_g (lw_at lw_m7 132 rfl) rfl
theorem q1628 : (Jvm.Cond.code ({ cls := "ChoreAssignmentModel", name := "fill", desc := "(II)I" } : Jvm.MethodName) prog_7_method_24_code (7 : Nat) (Option.some Jvm.ClassFile.FieldType.int)) ∈ lw_all := lw_g (lw_at lw_m7 133 rfl) rfl
theorem q1629 : (Jvm.Cond.constantLong "ChoreAssignmentModel" (132 : Nat) (9999 : Int64)) ∈ lw_all := lw_g (lw_at lw_m7 134 rfl) rfl
theorem q1631 : (Jvm.Cond.instanceMethod ({ cls := "ChoreAssignmentModel", name := "setForbidden", desc := "(IIZ)I" } : Jvm.MethodName)) ∈ lw_all := lw_g (lw_at lw_m7 136 rfl) rfl
theorem q1632 : (Jvm.Cond.selects "ChoreAssignmentModel" ({ cls := "ChoreAssignmentModel", name := "setForbidden", desc := "(IIZ)I" } : Jvm.MethodName) ({ cls := "ChoreAssignmentModel", name := "setForbidden", desc := "(IIZ)I" } : Jvm.MethodName)) ∈ lw_all := lw_g (lw_at lw_m7 137 rfl) rfl
theorem q1633 : (Jvm.Cond.code ({ cls := "ChoreAssignmentModel", name := "setForbidden", desc := "(IIZ)I" } : Jvm.MethodName) prog_7_method_26_code (4 : Nat) (Option.some Jvm.ClassFile.FieldType.int)) ∈ lw_all := lw_g (lw_at lw_m7 138 rfl) rfl
theorem q1634 : (Jvm.Cond.methodLink "ChoreAssignmentModel" (134 : Nat) ({ cls := "ChoreAssignmentModel", name := "forbiddenMany", desc := "()I" } : Jvm.MethodName)) ∈ lw_all := lw_g (lw_at lw_m7 139 rfl) rfl
theorem q1635 : (Jvm.Cond.privateMethod ({ cls := "ChoreAssignmentModel", name := "forbiddenMany", desc := "()I" } : Jvm.MethodName)) ∈ lw_tbl := lw_at lw_m7 140 rfl
theorem q1636 : (Jvm.Cond.instanceMethod ({ cls := "ChoreAssignmentModel", name := "forbiddenMany", desc := "()I" } : Jvm.MethodName)) ∈ lw_all := lw_g (lw_at lw_m7 141 rfl) rfl
theorem q1637 : (Jvm.Cond.code ({ cls := "ChoreAssignmentModel", name := "forbiddenMany", desc := "()I" } : Jvm.MethodName) prog_7_method_25_code (4 : Nat) (Option.some Jvm.ClassFile.FieldType.int)) ∈ lw_all := lw_g (lw_at lw_m7 142 rfl) rfl
theorem q1639 : (Jvm.Cond.instanceMethod ({ cls := "ChoreAssignmentModel", name := "costAt", desc := "(II)I" } : Jvm.MethodName)) ∈ lw_all := lw_g (lw_at lw_m7 144 rfl) rfl
theorem q1640 : (Jvm.Cond.selects "ChoreAssignmentModel" ({ cls := "ChoreAssignmentModel", name := "costAt", desc := "(II)I" } : Jvm.MethodName) ({ cls := "ChoreAssignmentModel", name := "costAt", desc := "(II)I" } : Jvm.MethodName)) ∈ lw_all := lw_g (lw_at lw_m7 145 rfl) rfl
theorem q1641 : (Jvm.Cond.code ({ cls := "ChoreAssignmentModel", name := "costAt", desc := "(II)I" } : Jvm.MethodName) prog_7_method_27_code (3 : Nat) (Option.some Jvm.ClassFile.FieldType.int)) ∈ lw_all := lw_g (lw_at lw_m7 146 rfl) rfl
theorem q1642 : (Jvm.Cond.methodLink "ChoreAssignmentModel" (75 : Nat) ({ cls := "ChoreAssignmentModel", name := "cost", desc := "(II)I" } : Jvm.MethodName)) ∈ lw_all := lw_g (lw_at lw_m7 147 rfl) rfl
theorem q1643 : (Jvm.Cond.privateMethod ({ cls := "ChoreAssignmentModel", name := "cost", desc := "(II)I" } : Jvm.MethodName)) ∈ lw_tbl := lw_at lw_m7 148 rfl
theorem q1644 : (Jvm.Cond.instanceMethod ({ cls := "ChoreAssignmentModel", name := "cost", desc := "(II)I" } : Jvm.MethodName)) ∈ lw_all := lw_g (lw_at lw_m7 149 rfl) rfl
theorem q1645 : (Jvm.Cond.code ({ cls := "ChoreAssignmentModel", name := "cost", desc := "(II)I" } : Jvm.MethodName) prog_7_method_7_code (3 : Nat) (Option.some Jvm.ClassFile.FieldType.int)) ∈ lw_all := lw_g (lw_at lw_m7 150 rfl) rfl
theorem q1647 : (Jvm.Cond.instanceMethod ({ cls := "ChoreAssignmentModel", name := "addToRow", desc := "(II)I" } : Jvm.MethodName)) ∈ lw_all := lw_g (lw_at lw_m7 152 rfl) rfl
theorem q1648 : (Jvm.Cond.selects "ChoreAssignmentModel" ({ cls := "ChoreAssignmentModel", name := "addToRow", desc := "(II)I" } : Jvm.MethodName) ({ cls := "ChoreAssignmentModel", name := "addToRow", desc := "(II)I" } : Jvm.MethodName)) ∈ lw_all := lw_g (lw_at lw_m7 153 rfl) rfl
theorem q1649 : (Jvm.Cond.code ({ cls := "ChoreAssignmentModel", name := "addToRow", desc := "(II)I" } : Jvm.MethodName) prog_7_method_31_code (5 : Nat) (Option.some Jvm.ClassFile.FieldType.int)) ∈ lw_all := lw_g (lw_at lw_m7 154 rfl) rfl
theorem q1650 : (Jvm.Cond.constantLong "ChoreAssignmentModel" (138 : Nat) (-99 : Int64)) ∈ lw_all := lw_g (lw_at lw_m7 155 rfl) rfl
theorem q1651 : (Jvm.Cond.methodLink "ChoreAssignmentModel" (140 : Nat) ({ cls := "ChoreAssignmentModel", name := "takes", desc := "(III)Z" } : Jvm.MethodName)) ∈ lw_all := lw_g (lw_at lw_m7 156 rfl) rfl
theorem q1652 : (Jvm.Cond.privateMethod ({ cls := "ChoreAssignmentModel", name := "takes", desc := "(III)Z" } : Jvm.MethodName)) ∈ lw_tbl := lw_at lw_m7 157 rfl
theorem q1653 : (Jvm.Cond.instanceMethod ({ cls := "ChoreAssignmentModel", name := "takes", desc := "(III)Z" } : Jvm.MethodName)) ∈ lw_all := lw_g (lw_at lw_m7 158 rfl) rfl
theorem q1654 : (Jvm.Cond.code ({ cls := "ChoreAssignmentModel", name := "takes", desc := "(III)Z" } : Jvm.MethodName) prog_7_method_30_code (4 : Nat) (Option.some Jvm.ClassFile.FieldType.boolean)) ∈ lw_all := lw_g (lw_at lw_m7 159 rfl) rfl
theorem q1655 : (Jvm.Cond.methodLink "ChoreAssignmentModel" (144 : Nat) ({ cls := "ChoreAssignmentModel", name := "rowSum", desc := "(I)I" } : Jvm.MethodName)) ∈ lw_all := lw_g (lw_at lw_m7 160 rfl) rfl
theorem q1656 : (Jvm.Cond.privateMethod ({ cls := "ChoreAssignmentModel", name := "rowSum", desc := "(I)I" } : Jvm.MethodName)) ∈ lw_tbl := lw_at lw_m7 161 rfl
theorem q1657 : (Jvm.Cond.instanceMethod ({ cls := "ChoreAssignmentModel", name := "rowSum", desc := "(I)I" } : Jvm.MethodName)) ∈ lw_all := lw_g (lw_at lw_m7 162 rfl) rfl
theorem q1658 : (Jvm.Cond.code ({ cls := "ChoreAssignmentModel", name := "rowSum", desc := "(I)I" } : Jvm.MethodName) prog_7_method_28_code (4 : Nat) (Option.some Jvm.ClassFile.FieldType.int)) ∈ lw_all := lw_g (lw_at lw_m7 163 rfl) rfl
theorem q1660 : (Jvm.Cond.instanceMethod ({ cls := "ChoreAssignmentModel", name := "addToColumn", desc := "(II)I" } : Jvm.MethodName)) ∈ lw_all := lw_g (lw_at lw_m7 165 rfl) rfl
theorem q1661 : (Jvm.Cond.selects "ChoreAssignmentModel" ({ cls := "ChoreAssignmentModel", name := "addToColumn", desc := "(II)I" } : Jvm.MethodName) ({ cls := "ChoreAssignmentModel", name := "addToColumn", desc := "(II)I" } : Jvm.MethodName)) ∈ lw_all := lw_g (lw_at lw_m7 166 rfl) rfl
theorem q1662 : (Jvm.Cond.code ({ cls := "ChoreAssignmentModel", name := "addToColumn", desc := "(II)I" } : Jvm.MethodName) prog_7_method_32_code (5 : Nat) (Option.some Jvm.ClassFile.FieldType.int)) ∈ lw_all := lw_g (lw_at lw_m7 167 rfl) rfl
theorem q1663 : (Jvm.Cond.methodLink "ChoreAssignmentModel" (147 : Nat) ({ cls := "ChoreAssignmentModel", name := "columnSum", desc := "(I)I" } : Jvm.MethodName)) ∈ lw_all := lw_g (lw_at lw_m7 168 rfl) rfl
theorem q1664 : (Jvm.Cond.privateMethod ({ cls := "ChoreAssignmentModel", name := "columnSum", desc := "(I)I" } : Jvm.MethodName)) ∈ lw_tbl := lw_at lw_m7 169 rfl
theorem q1665 : (Jvm.Cond.instanceMethod ({ cls := "ChoreAssignmentModel", name := "columnSum", desc := "(I)I" } : Jvm.MethodName)) ∈ lw_all := lw_g (lw_at lw_m7 170 rfl) rfl
theorem q1666 : (Jvm.Cond.code ({ cls := "ChoreAssignmentModel", name := "columnSum", desc := "(I)I" } : Jvm.MethodName) prog_7_method_29_code (4 : Nat) (Option.some Jvm.ClassFile.FieldType.int)) ∈ lw_all := lw_g (lw_at lw_m7 171 rfl) rfl
theorem q1668 : (Jvm.Cond.instanceMethod ({ cls := "ChoreAssignmentModel", name := "swapRows", desc := "(II)I" } : Jvm.MethodName)) ∈ lw_all := lw_g (lw_at lw_m7 173 rfl) rfl
theorem q1669 : (Jvm.Cond.selects "ChoreAssignmentModel" ({ cls := "ChoreAssignmentModel", name := "swapRows", desc := "(II)I" } : Jvm.MethodName) ({ cls := "ChoreAssignmentModel", name := "swapRows", desc := "(II)I" } : Jvm.MethodName)) ∈ lw_all := lw_g (lw_at lw_m7 174 rfl) rfl
theorem q1670 : (Jvm.Cond.code ({ cls := "ChoreAssignmentModel", name := "swapRows", desc := "(II)I" } : Jvm.MethodName) prog_7_method_34_code (4 : Nat) (Option.some Jvm.ClassFile.FieldType.int)) ∈ lw_all := lw_g (lw_at lw_m7 175 rfl) rfl
theorem q1671 : (Jvm.Cond.methodLink "ChoreAssignmentModel" (150 : Nat) ({ cls := "ChoreAssignmentModel", name := "exchangeCells", desc := "(II)V" } : Jvm.MethodName)) ∈ lw_all := lw_g (lw_at lw_m7 176 rfl) rfl
theorem q1672 : (Jvm.Cond.privateMethod ({ cls := "ChoreAssignmentModel", name := "exchangeCells", desc := "(II)V" } : Jvm.MethodName)) ∈ lw_tbl := lw_at lw_m7 177 rfl
theorem q1673 : (Jvm.Cond.instanceMethod ({ cls := "ChoreAssignmentModel", name := "exchangeCells", desc := "(II)V" } : Jvm.MethodName)) ∈ lw_all := lw_g (lw_at lw_m7 178 rfl) rfl
theorem q1674 : (Jvm.Cond.code ({ cls := "ChoreAssignmentModel", name := "exchangeCells", desc := "(II)V" } : Jvm.MethodName) prog_7_method_33_code (5 : Nat) (Option.none : Option Jvm.ClassFile.FieldType)) ∈ lw_all := lw_g (lw_at lw_m7 179 rfl) rfl
theorem q1676 : (Jvm.Cond.instanceMethod ({ cls := "ChoreAssignmentModel", name := "swapColumns", desc := "(II)I" } : Jvm.MethodName)) ∈ lw_all := lw_g (lw_at lw_m7 181 rfl) rfl
theorem q1677 : (Jvm.Cond.selects "ChoreAssignmentModel" ({ cls := "ChoreAssignmentModel", name := "swapColumns", desc := "(II)I" } : Jvm.MethodName) ({ cls := "ChoreAssignmentModel", name := "swapColumns", desc := "(II)I" } : Jvm.MethodName)) ∈ lw_all := lw_g (lw_at lw_m7 182 rfl) rfl
theorem q1678 : (Jvm.Cond.code ({ cls := "ChoreAssignmentModel", name := "swapColumns", desc := "(II)I" } : Jvm.MethodName) prog_7_method_35_code (4 : Nat) (Option.some Jvm.ClassFile.FieldType.int)) ∈ lw_all := lw_g (lw_at lw_m7 183 rfl) rfl
theorem q1680 : (Jvm.Cond.instanceMethod ({ cls := "ChoreAssignmentModel", name := "transpose", desc := "()I" } : Jvm.MethodName)) ∈ lw_all := lw_g (lw_at lw_m7 185 rfl) rfl
theorem q1681 : (Jvm.Cond.selects "ChoreAssignmentModel" ({ cls := "ChoreAssignmentModel", name := "transpose", desc := "()I" } : Jvm.MethodName) ({ cls := "ChoreAssignmentModel", name := "transpose", desc := "()I" } : Jvm.MethodName)) ∈ lw_all := lw_g (lw_at lw_m7 186 rfl) rfl
theorem q1682 : (Jvm.Cond.code ({ cls := "ChoreAssignmentModel", name := "transpose", desc := "()I" } : Jvm.MethodName) prog_7_method_36_code (3 : Nat) (Option.some Jvm.ClassFile.FieldType.int)) ∈ lw_all := lw_g (lw_at lw_m7 187 rfl) rfl
theorem q1684 : (Jvm.Cond.instanceMethod ({ cls := "ChoreAssignmentModel", name := "save", desc := "()I" } : Jvm.MethodName)) ∈ lw_all := lw_g (lw_at lw_m7 189 rfl) rfl
theorem q1685 : (Jvm.Cond.selects "ChoreAssignmentModel" ({ cls := "ChoreAssignmentModel", name := "save", desc := "()I" } : Jvm.MethodName) ({ cls := "ChoreAssignmentModel", name := "save", desc := "()I" } : Jvm.MethodName)) ∈ lw_all := lw_g (lw_at lw_m7 190 rfl) rfl
theorem q1686 : (Jvm.Cond.code ({ cls := "ChoreAssignmentModel", name := "save", desc := "()I" } : Jvm.MethodName) prog_7_method_38_code (2 : Nat) (Option.some Jvm.ClassFile.FieldType.int)) ∈ lw_all := lw_g (lw_at lw_m7 191 rfl) rfl
theorem q1687 : (Jvm.Cond.methodLink "ChoreAssignmentModel" (153 : Nat) ({ cls := "ChoreAssignmentModel", name := "total", desc := "()I" } : Jvm.MethodName)) ∈ lw_all := lw_g (lw_at lw_m7 192 rfl) rfl
theorem q1688 : (Jvm.Cond.privateMethod ({ cls := "ChoreAssignmentModel", name := "total", desc := "()I" } : Jvm.MethodName)) ∈ lw_tbl := lw_at lw_m7 193 rfl
theorem q1689 : (Jvm.Cond.instanceMethod ({ cls := "ChoreAssignmentModel", name := "total", desc := "()I" } : Jvm.MethodName)) ∈ lw_all := lw_g (lw_at lw_m7 194 rfl) rfl
theorem q1690 : (Jvm.Cond.code ({ cls := "ChoreAssignmentModel", name := "total", desc := "()I" } : Jvm.MethodName) prog_7_method_37_code (3 : Nat) (Option.some Jvm.ClassFile.FieldType.int)) ∈ lw_all := lw_g (lw_at lw_m7 195 rfl) rfl
theorem q1692 : (Jvm.Cond.instanceMethod ({ cls := "ChoreAssignmentModel", name := "restore", desc := "()I" } : Jvm.MethodName)) ∈ lw_all := lw_g (lw_at lw_m7 197 rfl) rfl
theorem q1693 : (Jvm.Cond.selects "ChoreAssignmentModel" ({ cls := "ChoreAssignmentModel", name := "restore", desc := "()I" } : Jvm.MethodName) ({ cls := "ChoreAssignmentModel", name := "restore", desc := "()I" } : Jvm.MethodName)) ∈ lw_all := lw_g (lw_at lw_m7 198 rfl) rfl
theorem q1694 : (Jvm.Cond.code ({ cls := "ChoreAssignmentModel", name := "restore", desc := "()I" } : Jvm.MethodName) prog_7_method_39_code (2 : Nat) (Option.some Jvm.ClassFile.FieldType.int)) ∈ lw_all := lw_g (lw_at lw_m7 199 rfl) rfl
theorem q1696 : (Jvm.Cond.instanceMethod ({ cls := "ChoreAssignmentModel", name := "distance", desc := "()I" } : Jvm.MethodName)) ∈ lw_all := lw_g (lw_at lw_m7 201 rfl) rfl
theorem q1697 : (Jvm.Cond.selects "ChoreAssignmentModel" ({ cls := "ChoreAssignmentModel", name := "distance", desc := "()I" } : Jvm.MethodName) ({ cls := "ChoreAssignmentModel", name := "distance", desc := "()I" } : Jvm.MethodName)) ∈ lw_all := lw_g (lw_at lw_m7 202 rfl) rfl
theorem q1698 : (Jvm.Cond.code ({ cls := "ChoreAssignmentModel", name := "distance", desc := "()I" } : Jvm.MethodName) prog_7_method_40_code (5 : Nat) (Option.some Jvm.ClassFile.FieldType.int)) ∈ lw_all := lw_g (lw_at lw_m7 203 rfl) rfl
theorem q1699 : (Jvm.Cond.methodLink "ChoreAssignmentModel" (156 : Nat) ({ cls := "ChoreAssignmentModel", name := "savedCost", desc := "(II)I" } : Jvm.MethodName)) ∈ lw_all := lw_g (lw_at lw_m7 204 rfl) rfl
theorem q1700 : (Jvm.Cond.privateMethod ({ cls := "ChoreAssignmentModel", name := "savedCost", desc := "(II)I" } : Jvm.MethodName)) ∈ lw_tbl := lw_at lw_m7 205 rfl
theorem q1701 : (Jvm.Cond.instanceMethod ({ cls := "ChoreAssignmentModel", name := "savedCost", desc := "(II)I" } : Jvm.MethodName)) ∈ lw_all := lw_g (lw_at lw_m7 206 rfl) rfl
theorem q1702 : (Jvm.Cond.code ({ cls := "ChoreAssignmentModel", name := "savedCost", desc := "(II)I" } : Jvm.MethodName) prog_7_method_8_code (3 : Nat) (Option.some Jvm.ClassFile.FieldType.int)) ∈ lw_all := lw_g (lw_at lw_m7 207 rfl) rfl
theorem q1704 : (Jvm.Cond.instanceMethod ({ cls := "ChoreAssignmentModel", name := "rows", desc := "()I" } : Jvm.MethodName)) ∈ lw_all := lw_g (lw_at lw_m7 209 rfl) rfl
theorem q1705 : (Jvm.Cond.selects "ChoreAssignmentModel" ({ cls := "ChoreAssignmentModel", name := "rows", desc := "()I" } : Jvm.MethodName) ({ cls := "ChoreAssignmentModel", name := "rows", desc := "()I" } : Jvm.MethodName)) ∈ lw_all := lw_g (lw_at lw_m7 210 rfl) rfl
theorem q1706 : (Jvm.Cond.code ({ cls := "ChoreAssignmentModel", name := "rows", desc := "()I" } : Jvm.MethodName) prog_7_method_41_code (1 : Nat) (Option.some Jvm.ClassFile.FieldType.int)) ∈ lw_all := lw_g (lw_at lw_m7 211 rfl) rfl
theorem q1708 : (Jvm.Cond.instanceMethod ({ cls := "ChoreAssignmentModel", name := "columns", desc := "()I" } : Jvm.MethodName)) ∈ lw_all := lw_g (lw_at lw_m7 213 rfl) rfl
theorem q1709 : (Jvm.Cond.selects "ChoreAssignmentModel" ({ cls := "ChoreAssignmentModel", name := "columns", desc := "()I" } : Jvm.MethodName) ({ cls := "ChoreAssignmentModel", name := "columns", desc := "()I" } : Jvm.MethodName)) ∈ lw_all := lw_g (lw_at lw_m7 214 rfl) rfl
theorem q1710 : (Jvm.Cond.code ({ cls := "ChoreAssignmentModel", name := "columns", desc := "()I" } : Jvm.MethodName) prog_7_method_42_code (1 : Nat) (Option.some Jvm.ClassFile.FieldType.int)) ∈ lw_all := lw_g (lw_at lw_m7 215 rfl) rfl
theorem q1712 : (Jvm.Cond.instanceMethod ({ cls := "ChoreAssignmentModel", name := "forbiddenCount", desc := "()I" } : Jvm.MethodName)) ∈ lw_all := lw_g (lw_at lw_m7 217 rfl) rfl
theorem q1713 : (Jvm.Cond.selects "ChoreAssignmentModel" ({ cls := "ChoreAssignmentModel", name := "forbiddenCount", desc := "()I" } : Jvm.MethodName) ({ cls := "ChoreAssignmentModel", name := "forbiddenCount", desc := "()I" } : Jvm.MethodName)) ∈ lw_all := lw_g (lw_at lw_m7 218 rfl) rfl
theorem q1714 : (Jvm.Cond.code ({ cls := "ChoreAssignmentModel", name := "forbiddenCount", desc := "()I" } : Jvm.MethodName) prog_7_method_43_code (1 : Nat) (Option.some Jvm.ClassFile.FieldType.int)) ∈ lw_all := lw_g (lw_at lw_m7 219 rfl) rfl
theorem q1716 : (Jvm.Cond.instanceMethod ({ cls := "ChoreAssignmentModel", name := "totalCost", desc := "()I" } : Jvm.MethodName)) ∈ lw_all := lw_g (lw_at lw_m7 221 rfl) rfl
theorem q1717 : (Jvm.Cond.selects "ChoreAssignmentModel" ({ cls := "ChoreAssignmentModel", name := "totalCost", desc := "()I" } : Jvm.MethodName) ({ cls := "ChoreAssignmentModel", name := "totalCost", desc := "()I" } : Jvm.MethodName)) ∈ lw_all := lw_g (lw_at lw_m7 222 rfl) rfl
theorem q1718 : (Jvm.Cond.code ({ cls := "ChoreAssignmentModel", name := "totalCost", desc := "()I" } : Jvm.MethodName) prog_7_method_44_code (1 : Nat) (Option.some Jvm.ClassFile.FieldType.int)) ∈ lw_all := lw_g (lw_at lw_m7 223 rfl) rfl
theorem q1720 : (Jvm.Cond.instanceMethod ({ cls := "ChoreAssignmentModel", name := "minimum", desc := "()I" } : Jvm.MethodName)) ∈ lw_all := lw_g (lw_at lw_m7 225 rfl) rfl
theorem q1721 : (Jvm.Cond.selects "ChoreAssignmentModel" ({ cls := "ChoreAssignmentModel", name := "minimum", desc := "()I" } : Jvm.MethodName) ({ cls := "ChoreAssignmentModel", name := "minimum", desc := "()I" } : Jvm.MethodName)) ∈ lw_all := lw_g (lw_at lw_m7 226 rfl) rfl
theorem q1722 : (Jvm.Cond.code ({ cls := "ChoreAssignmentModel", name := "minimum", desc := "()I" } : Jvm.MethodName) prog_7_method_45_code (1 : Nat) (Option.some Jvm.ClassFile.FieldType.int)) ∈ lw_all := lw_g (lw_at lw_m7 227 rfl) rfl
theorem q1723 : (Jvm.Cond.methodLink "ChoreAssignmentModel" (114 : Nat) ({ cls := "ChoreAssignmentModel", name := "look", desc := "()V" } : Jvm.MethodName)) ∈ lw_all := lw_g (lw_at lw_m7 228 rfl) rfl
theorem q1724 : (Jvm.Cond.privateMethod ({ cls := "ChoreAssignmentModel", name := "look", desc := "()V" } : Jvm.MethodName)) ∈ lw_tbl := lw_at lw_m7 229 rfl
theorem q1725 : (Jvm.Cond.instanceMethod ({ cls := "ChoreAssignmentModel", name := "look", desc := "()V" } : Jvm.MethodName)) ∈ lw_all := lw_g (lw_at lw_m7 230 rfl) rfl
theorem q1726 : (Jvm.Cond.code ({ cls := "ChoreAssignmentModel", name := "look", desc := "()V" } : Jvm.MethodName) prog_7_method_17_code (1 : Nat) (Option.none : Option Jvm.ClassFile.FieldType)) ∈ lw_all := lw_g (lw_at lw_m7 231 rfl) rfl
theorem q1727 : (Jvm.Cond.methodLink "ChoreAssignmentModel" (108 : Nat) ({ cls := "ChoreAssignmentModel", name := "take", desc := "()V" } : Jvm.MethodName)) ∈ lw_all := lw_g (lw_at lw_m7 232 rfl) rfl
theorem q1728 : (Jvm.Cond.privateMethod ({ cls := "ChoreAssignmentModel", name := "take", desc := "()V" } : Jvm.MethodName)) ∈ lw_tbl := lw_at lw_m7 233 rfl
theorem q1729 : (Jvm.Cond.instanceMethod ({ cls := "ChoreAssignmentModel", name := "take", desc := "()V" } : Jvm.MethodName)) ∈ lw_all := lw_g (lw_at lw_m7 234 rfl) rfl
theorem q1730 : (Jvm.Cond.code ({ cls := "ChoreAssignmentModel", name := "take", desc := "()V" } : Jvm.MethodName) prog_7_method_14_code (3 : Nat) (Option.none : Option Jvm.ClassFile.FieldType)) ∈ lw_all := lw_g (lw_at lw_m7 235 rfl) rfl
theorem q1731 : (Jvm.Cond.methodLink "ChoreAssignmentModel" (111 : Nat) ({ cls := "ChoreAssignmentModel", name := "look", desc := "(I)V" } : Jvm.MethodName)) ∈ lw_all := lw_g (lw_at lw_m7 236 rfl) rfl
theorem q1732 : (Jvm.Cond.privateMethod ({ cls := "ChoreAssignmentModel", name := "look", desc := "(I)V" } : Jvm.MethodName)) ∈ lw_tbl := lw_at lw_m7 237 rfl
theorem q1733 : (Jvm.Cond.instanceMethod ({ cls := "ChoreAssignmentModel", name := "look", desc := "(I)V" } : Jvm.MethodName)) ∈ lw_all := lw_g (lw_at lw_m7 238 rfl) rfl
theorem q1734 : (Jvm.Cond.code ({ cls := "ChoreAssignmentModel", name := "look", desc := "(I)V" } : Jvm.MethodName) prog_7_method_15_code (3 : Nat) (Option.none : Option Jvm.ClassFile.FieldType)) ∈ lw_all := lw_g (lw_at lw_m7 239 rfl) rfl
theorem q1735 : (Jvm.Cond.constant "ChoreAssignmentModel" (79 : Nat) (1000000 : Int32)) ∈ lw_all := lw_g (lw_at lw_m8 0 rfl) rfl
theorem q1736 : (Jvm.Cond.methodLink "ChoreAssignmentModel" (95 : Nat) ({ cls := "ChoreAssignmentModel", name := "begin", desc := "()V" } : Jvm.MethodName)) ∈ lw_all := lw_g (lw_at lw_m8 1 rfl) rfl
theorem q1737 : (Jvm.Cond.privateMethod ({ cls := "ChoreAssignmentModel", name := "begin", desc := "()V" } : Jvm.MethodName)) ∈ lw_tbl := lw_at lw_m8 2 rfl
theorem q1738 : (Jvm.Cond.instanceMethod ({ cls := "ChoreAssignmentModel", name := "begin", desc := "()V" } : Jvm.MethodName)) ∈ lw_all := lw_g (lw_at lw_m8 3 rfl) rfl
theorem q1739 : (Jvm.Cond.code ({ cls := "ChoreAssignmentModel", name := "begin", desc := "()V" } : Jvm.MethodName) prog_7_method_10_code (2 : Nat) (Option.none : Option Jvm.ClassFile.FieldType)) ∈ lw_all := lw_g (lw_at lw_m8 4 rfl) rfl
theorem q1740 : (Jvm.Cond.methodLink "ChoreAssignmentModel" (67 : Nat) ({ cls := "ChoreAssignmentModel", name := "factorial", desc := "(I)I" } : Jvm.MethodName)) ∈ lw_all := lw_g (lw_at lw_m8 5 rfl) rfl
theorem q1741 : (Jvm.Cond.static ({ cls := "ChoreAssignmentModel", name := "factorial", desc := "(I)I" } : Jvm.MethodName)) ∈ lw_all := lw_g (lw_at lw_m8 6 rfl) rfl
theorem q1742 : (Jvm.Cond.code ({ cls := "ChoreAssignmentModel", name := "factorial", desc := "(I)I" } : Jvm.MethodName) prog_7_method_9_code (1 : Nat) (Option.some Jvm.ClassFile.FieldType.int)) ∈ lw_all := lw_g (lw_at lw_m8 7 rfl) rfl
theorem q1743 : (Jvm.Cond.methodLink "ChoreAssignmentModel" (98 : Nat) ({ cls := "ChoreAssignmentModel", name := "sum", desc := "(I)I" } : Jvm.MethodName)) ∈ lw_all := lw_g (lw_at lw_m8 8 rfl) rfl
theorem q1744 : (Jvm.Cond.privateMethod ({ cls := "ChoreAssignmentModel", name := "sum", desc := "(I)I" } : Jvm.MethodName)) ∈ lw_tbl := lw_at lw_m8 9 rfl
theorem q1745 : (Jvm.Cond.instanceMethod ({ cls := "ChoreAssignmentModel", name := "sum", desc := "(I)I" } : Jvm.MethodName)) ∈ lw_all := lw_g (lw_at lw_m8 10 rfl) rfl
theorem q1746 : (Jvm.Cond.code ({ cls := "ChoreAssignmentModel", name := "sum", desc := "(I)I" } : Jvm.MethodName) prog_7_method_13_code (4 : Nat) (Option.some Jvm.ClassFile.FieldType.int)) ∈ lw_all := lw_g (lw_at lw_m8 11 rfl) rfl
theorem q1747 : (Jvm.Cond.methodLink "ChoreAssignmentModel" (101 : Nat) ({ cls := "ChoreAssignmentModel", name := "see", desc := "(II)V" } : Jvm.MethodName)) ∈ lw_all := lw_g (lw_at lw_m8 12 rfl) rfl
theorem q1748 : (Jvm.Cond.privateMethod ({ cls := "ChoreAssignmentModel", name := "see", desc := "(II)V" } : Jvm.MethodName)) ∈ lw_tbl := lw_at lw_m8 13 rfl
theorem q1749 : (Jvm.Cond.instanceMethod ({ cls := "ChoreAssignmentModel", name := "see", desc := "(II)V" } : Jvm.MethodName)) ∈ lw_all := lw_g (lw_at lw_m8 14 rfl) rfl
theorem q1750 : (Jvm.Cond.code ({ cls := "ChoreAssignmentModel", name := "see", desc := "(II)V" } : Jvm.MethodName) prog_7_method_16_code (6 : Nat) (Option.none : Option Jvm.ClassFile.FieldType)) ∈ lw_all := lw_g (lw_at lw_m8 15 rfl) rfl
theorem q1751 : (Jvm.Cond.methodLink "ChoreAssignmentModel" (104 : Nat) ({ cls := "ChoreAssignmentModel", name := "goOn", desc := "(I)V" } : Jvm.MethodName)) ∈ lw_all := lw_g (lw_at lw_m8 16 rfl) rfl
theorem q1752 : (Jvm.Cond.privateMethod ({ cls := "ChoreAssignmentModel", name := "goOn", desc := "(I)V" } : Jvm.MethodName)) ∈ lw_tbl := lw_at lw_m8 17 rfl
theorem q1753 : (Jvm.Cond.instanceMethod ({ cls := "ChoreAssignmentModel", name := "goOn", desc := "(I)V" } : Jvm.MethodName)) ∈ lw_all := lw_g (lw_at lw_m8 18 rfl) rfl
theorem q1754 : (Jvm.Cond.code ({ cls := "ChoreAssignmentModel", name := "goOn", desc := "(I)V" } : Jvm.MethodName) prog_7_method_11_code (6 : Nat) (Option.none : Option Jvm.ClassFile.FieldType)) ∈ lw_all := lw_g (lw_at lw_m8 19 rfl) rfl
theorem q1755 : (Jvm.Cond.methodLink "ChoreAssignmentModel" (71 : Nat) ({ cls := "ChoreAssignmentModel", name := "exchange", desc := "(II)V" } : Jvm.MethodName)) ∈ lw_all := lw_g (lw_at lw_m8 20 rfl) rfl
theorem q1756 : (Jvm.Cond.privateMethod ({ cls := "ChoreAssignmentModel", name := "exchange", desc := "(II)V" } : Jvm.MethodName)) ∈ lw_tbl := lw_at lw_m8 21 rfl
theorem q1757 : (Jvm.Cond.instanceMethod ({ cls := "ChoreAssignmentModel", name := "exchange", desc := "(II)V" } : Jvm.MethodName)) ∈ lw_all := lw_g (lw_at lw_m8 22 rfl) rfl
theorem q1758 : (Jvm.Cond.code ({ cls := "ChoreAssignmentModel", name := "exchange", desc := "(II)V" } : Jvm.MethodName) prog_7_method_12_code (4 : Nat) (Option.none : Option Jvm.ClassFile.FieldType)) ∈ lw_all := lw_g (lw_at lw_m8 23 rfl) rfl
theorem q1760 : (Jvm.Cond.instanceMethod ({ cls := "ChoreAssignmentModel", name := "savedMinimum", desc := "()I" } : Jvm.MethodName)) ∈ lw_all := lw_g (lw_at lw_m8 25 rfl) rfl
theorem q1761 : (Jvm.Cond.selects "ChoreAssignmentModel" ({ cls := "ChoreAssignmentModel", name := "savedMinimum", desc := "()I" } : Jvm.MethodName) ({ cls := "ChoreAssignmentModel", name := "savedMinimum", desc := "()I" } : Jvm.MethodName)) ∈ lw_all := lw_g (lw_at lw_m8 26 rfl) rfl
theorem q1762 : (Jvm.Cond.code ({ cls := "ChoreAssignmentModel", name := "savedMinimum", desc := "()I" } : Jvm.MethodName) prog_7_method_46_code (3 : Nat) (Option.some Jvm.ClassFile.FieldType.int)) ∈ lw_all := lw_g (lw_at lw_m8 27 rfl) rfl
theorem q1764 : (Jvm.Cond.instanceMethod ({ cls := "ChoreAssignmentModel", name := "assigned", desc := "(I)I" } : Jvm.MethodName)) ∈ lw_all := lw_g (lw_at lw_m8 29 rfl) rfl
theorem q1765 : (Jvm.Cond.selects "ChoreAssignmentModel" ({ cls := "ChoreAssignmentModel", name := "assigned", desc := "(I)I" } : Jvm.MethodName) ({ cls := "ChoreAssignmentModel", name := "assigned", desc := "(I)I" } : Jvm.MethodName)) ∈ lw_all := lw_g (lw_at lw_m8 30 rfl) rfl
theorem q1766 : (Jvm.Cond.code ({ cls := "ChoreAssignmentModel", name := "assigned", desc := "(I)I" } : Jvm.MethodName) prog_7_method_47_code (2 : Nat) (Option.some Jvm.ClassFile.FieldType.int)) ∈ lw_all := lw_g (lw_at lw_m8 31 rfl) rfl
theorem q1768 : (Jvm.Cond.instanceMethod ({ cls := "ChoreAssignmentModel", name := "optimalCount", desc := "()I" } : Jvm.MethodName)) ∈ lw_all := lw_g (lw_at lw_m8 33 rfl) rfl
theorem q1769 : (Jvm.Cond.selects "ChoreAssignmentModel" ({ cls := "ChoreAssignmentModel", name := "optimalCount", desc := "()I" } : Jvm.MethodName) ({ cls := "ChoreAssignmentModel", name := "optimalCount", desc := "()I" } : Jvm.MethodName)) ∈ lw_all := lw_g (lw_at lw_m8 34 rfl) rfl
theorem q1770 : (Jvm.Cond.code ({ cls := "ChoreAssignmentModel", name := "optimalCount", desc := "()I" } : Jvm.MethodName) prog_7_method_48_code (1 : Nat) (Option.some Jvm.ClassFile.FieldType.int)) ∈ lw_all := lw_g (lw_at lw_m8 35 rfl) rfl
theorem q1772 : (Jvm.Cond.instanceMethod ({ cls := "ChoreAssignmentModel", name := "rowPotential", desc := "(I)I" } : Jvm.MethodName)) ∈ lw_all := lw_g (lw_at lw_m8 37 rfl) rfl
theorem q1773 : (Jvm.Cond.selects "ChoreAssignmentModel" ({ cls := "ChoreAssignmentModel", name := "rowPotential", desc := "(I)I" } : Jvm.MethodName) ({ cls := "ChoreAssignmentModel", name := "rowPotential", desc := "(I)I" } : Jvm.MethodName)) ∈ lw_all := lw_g (lw_at lw_m8 38 rfl) rfl
theorem q1774 : (Jvm.Cond.code ({ cls := "ChoreAssignmentModel", name := "rowPotential", desc := "(I)I" } : Jvm.MethodName) prog_7_method_49_code (2 : Nat) (Option.some Jvm.ClassFile.FieldType.int)) ∈ lw_all := lw_g (lw_at lw_m8 39 rfl) rfl
theorem q1775 : (Jvm.Cond.methodLink "ChoreAssignmentModel" (159 : Nat) ({ cls := "ChoreAssignmentModel", name := "findPotentials", desc := "()V" } : Jvm.MethodName)) ∈ lw_all := lw_g (lw_at lw_m8 40 rfl) rfl
theorem q1776 : (Jvm.Cond.privateMethod ({ cls := "ChoreAssignmentModel", name := "findPotentials", desc := "()V" } : Jvm.MethodName)) ∈ lw_tbl := lw_at lw_m8 41 rfl
theorem q1777 : (Jvm.Cond.instanceMethod ({ cls := "ChoreAssignmentModel", name := "findPotentials", desc := "()V" } : Jvm.MethodName)) ∈ lw_all := lw_g (lw_at lw_m8 42 rfl) rfl
theorem q1778 : (Jvm.Cond.code ({ cls := "ChoreAssignmentModel", name := "findPotentials", desc := "()V" } : Jvm.MethodName) prog_7_method_19_code (4 : Nat) (Option.none : Option Jvm.ClassFile.FieldType)) ∈ lw_all := lw_g (lw_at lw_m8 43 rfl) rfl
theorem q1780 : (Jvm.Cond.instanceMethod ({ cls := "ChoreAssignmentModel", name := "columnPotential", desc := "(I)I" } : Jvm.MethodName)) ∈ lw_all := lw_g (lw_at lw_m8 45 rfl) rfl
theorem q1781 : (Jvm.Cond.selects "ChoreAssignmentModel" ({ cls := "ChoreAssignmentModel", name := "columnPotential", desc := "(I)I" } : Jvm.MethodName) ({ cls := "ChoreAssignmentModel", name := "columnPotential", desc := "(I)I" } : Jvm.MethodName)) ∈ lw_all := lw_g (lw_at lw_m8 46 rfl) rfl
theorem q1782 : (Jvm.Cond.code ({ cls := "ChoreAssignmentModel", name := "columnPotential", desc := "(I)I" } : Jvm.MethodName) prog_7_method_50_code (2 : Nat) (Option.some Jvm.ClassFile.FieldType.int)) ∈ lw_all := lw_g (lw_at lw_m8 47 rfl) rfl
theorem q1784 : (Jvm.Cond.instanceMethod ({ cls := "ChoreAssignmentModel", name := "reducedCost", desc := "(II)I" } : Jvm.MethodName)) ∈ lw_all := lw_g (lw_at lw_m8 49 rfl) rfl
theorem q1785 : (Jvm.Cond.selects "ChoreAssignmentModel" ({ cls := "ChoreAssignmentModel", name := "reducedCost", desc := "(II)I" } : Jvm.MethodName) ({ cls := "ChoreAssignmentModel", name := "reducedCost", desc := "(II)I" } : Jvm.MethodName)) ∈ lw_all := lw_g (lw_at lw_m8 50 rfl) rfl
theorem q1786 : (Jvm.Cond.code ({ cls := "ChoreAssignmentModel", name := "reducedCost", desc := "(II)I" } : Jvm.MethodName) prog_7_method_51_code (3 : Nat) (Option.some Jvm.ClassFile.FieldType.int)) ∈ lw_all := lw_g (lw_at lw_m8 51 rfl) rfl
theorem q1787 : (Jvm.Cond.methodLink "ChoreAssignmentModel" (162 : Nat) ({ cls := "ChoreAssignmentModel", name := "reduced", desc := "(II)I" } : Jvm.MethodName)) ∈ lw_all := lw_g (lw_at lw_m8 52 rfl) rfl
theorem q1788 : (Jvm.Cond.privateMethod ({ cls := "ChoreAssignmentModel", name := "reduced", desc := "(II)I" } : Jvm.MethodName)) ∈ lw_tbl := lw_at lw_m8 53 rfl
theorem q1789 : (Jvm.Cond.instanceMethod ({ cls := "ChoreAssignmentModel", name := "reduced", desc := "(II)I" } : Jvm.MethodName)) ∈ lw_all := lw_g (lw_at lw_m8 54 rfl) rfl
theorem q1790 : (Jvm.Cond.code ({ cls := "ChoreAssignmentModel", name := "reduced", desc := "(II)I" } : Jvm.MethodName) prog_7_method_20_code (3 : Nat) (Option.some Jvm.ClassFile.FieldType.int)) ∈ lw_all := lw_g (lw_at lw_m8 55 rfl) rfl
theorem q1792 : (Jvm.Cond.instanceMethod ({ cls := "ChoreAssignmentModel", name := "minimumWith", desc := "(II)I" } : Jvm.MethodName)) ∈ lw_all := lw_g (lw_at lw_m8 57 rfl) rfl
theorem q1793 : (Jvm.Cond.selects "ChoreAssignmentModel" ({ cls := "ChoreAssignmentModel", name := "minimumWith", desc := "(II)I" } : Jvm.MethodName) ({ cls := "ChoreAssignmentModel", name := "minimumWith", desc := "(II)I" } : Jvm.MethodName)) ∈ lw_all := lw_g (lw_at lw_m8 58 rfl) rfl
theorem q1794 : (Jvm.Cond.code ({ cls := "ChoreAssignmentModel", name := "minimumWith", desc := "(II)I" } : Jvm.MethodName) prog_7_method_52_code (3 : Nat) (Option.some Jvm.ClassFile.FieldType.int)) ∈ lw_all := lw_g (lw_at lw_m8 59 rfl) rfl
theorem q1796 : (Jvm.Cond.instanceMethod ({ cls := "ChoreAssignmentModel", name := "minimumWithout", desc := "(II)I" } : Jvm.MethodName)) ∈ lw_all := lw_g (lw_at lw_m8 61 rfl) rfl
theorem q1797 : (Jvm.Cond.selects "ChoreAssignmentModel" ({ cls := "ChoreAssignmentModel", name := "minimumWithout", desc := "(II)I" } : Jvm.MethodName) ({ cls := "ChoreAssignmentModel", name := "minimumWithout", desc := "(II)I" } : Jvm.MethodName)) ∈ lw_all := lw_g (lw_at lw_m8 62 rfl) rfl
theorem q1798 : (Jvm.Cond.code ({ cls := "ChoreAssignmentModel", name := "minimumWithout", desc := "(II)I" } : Jvm.MethodName) prog_7_method_53_code (3 : Nat) (Option.some Jvm.ClassFile.FieldType.int)) ∈ lw_all := lw_g (lw_at lw_m8 63 rfl) rfl
theorem q1799 : (Jvm.Cond.methodLink "ChoreAssignmentModel" (165 : Nat) ({ cls := "ChoreAssignmentModel", name := "without", desc := "(II)I" } : Jvm.MethodName)) ∈ lw_all := lw_g (lw_at lw_m8 64 rfl) rfl
theorem q1800 : (Jvm.Cond.privateMethod ({ cls := "ChoreAssignmentModel", name := "without", desc := "(II)I" } : Jvm.MethodName)) ∈ lw_tbl := lw_at lw_m8 65 rfl
theorem q1801 : (Jvm.Cond.instanceMethod ({ cls := "ChoreAssignmentModel", name := "without", desc := "(II)I" } : Jvm.MethodName)) ∈ lw_all := lw_g (lw_at lw_m8 66 rfl) rfl
theorem q1802 : (Jvm.Cond.code ({ cls := "ChoreAssignmentModel", name := "without", desc := "(II)I" } : Jvm.MethodName) prog_7_method_18_code (5 : Nat) (Option.some Jvm.ClassFile.FieldType.int)) ∈ lw_all := lw_g (lw_at lw_m8 67 rfl) rfl
theorem q1804 : (Jvm.Cond.instanceMethod ({ cls := "ChoreAssignmentModel", name := "minimumIfCost", desc := "(III)I" } : Jvm.MethodName)) ∈ lw_all := lw_g (lw_at lw_m8 69 rfl) rfl
theorem q1805 : (Jvm.Cond.selects "ChoreAssignmentModel" ({ cls := "ChoreAssignmentModel", name := "minimumIfCost", desc := "(III)I" } : Jvm.MethodName) ({ cls := "ChoreAssignmentModel", name := "minimumIfCost", desc := "(III)I" } : Jvm.MethodName)) ∈ lw_all := lw_g (lw_at lw_m8 70 rfl) rfl
theorem q1806 : (Jvm.Cond.code ({ cls := "ChoreAssignmentModel", name := "minimumIfCost", desc := "(III)I" } : Jvm.MethodName) prog_7_method_54_code (4 : Nat) (Option.some Jvm.ClassFile.FieldType.int)) ∈ lw_all := lw_g (lw_at lw_m8 71 rfl) rfl
theorem q1808 : (Jvm.Cond.instanceMethod ({ cls := "ChoreAssignmentModel", name := "secondBest", desc := "()I" } : Jvm.MethodName)) ∈ lw_all := lw_g (lw_at lw_m8 73 rfl) rfl
theorem q1809 : (Jvm.Cond.selects "ChoreAssignmentModel" ({ cls := "ChoreAssignmentModel", name := "secondBest", desc := "()I" } : Jvm.MethodName) ({ cls := "ChoreAssignmentModel", name := "secondBest", desc := "()I" } : Jvm.MethodName)) ∈ lw_all := lw_g (lw_at lw_m8 74 rfl) rfl
theorem q1810 : (Jvm.Cond.code ({ cls := "ChoreAssignmentModel", name := "secondBest", desc := "()I" } : Jvm.MethodName) prog_7_method_55_code (1 : Nat) (Option.some Jvm.ClassFile.FieldType.int)) ∈ lw_all := lw_g (lw_at lw_m8 75 rfl) rfl
theorem q1812 : (Jvm.Cond.instanceMethod ({ cls := "ChoreAssignmentModel", name := "maximum", desc := "()I" } : Jvm.MethodName)) ∈ lw_all := lw_g (lw_at lw_m8 77 rfl) rfl
theorem q1813 : (Jvm.Cond.selects "ChoreAssignmentModel" ({ cls := "ChoreAssignmentModel", name := "maximum", desc := "()I" } : Jvm.MethodName) ({ cls := "ChoreAssignmentModel", name := "maximum", desc := "()I" } : Jvm.MethodName)) ∈ lw_all := lw_g (lw_at lw_m8 78 rfl) rfl
theorem q1814 : (Jvm.Cond.code ({ cls := "ChoreAssignmentModel", name := "maximum", desc := "()I" } : Jvm.MethodName) prog_7_method_56_code (1 : Nat) (Option.some Jvm.ClassFile.FieldType.int)) ∈ lw_all := lw_g (lw_at lw_m8 79 rfl) rfl
theorem q1816 : (Jvm.Cond.instanceMethod ({ cls := "ChoreAssignmentModel", name := "bottleneck", desc := "()I" } : Jvm.MethodName)) ∈ lw_all := lw_g (lw_at lw_m8 81 rfl) rfl
theorem q1817 : (Jvm.Cond.selects "ChoreAssignmentModel" ({ cls := "ChoreAssignmentModel", name := "bottleneck", desc := "()I" } : Jvm.MethodName) ({ cls := "ChoreAssignmentModel", name := "bottleneck", desc := "()I" } : Jvm.MethodName)) ∈ lw_all := lw_g (lw_at lw_m8 82 rfl) rfl
theorem q1818 : (Jvm.Cond.code ({ cls := "ChoreAssignmentModel", name := "bottleneck", desc := "()I" } : Jvm.MethodName) prog_7_method_57_code (1 : Nat) (Option.some Jvm.ClassFile.FieldType.int)) ∈ lw_all := lw_g (lw_at lw_m8 83 rfl) rfl
theorem q1820 : (Jvm.Cond.instanceMethod ({ cls := "ChoreAssignmentModel", name := "fits", desc := "(I)Z" } : Jvm.MethodName)) ∈ lw_all := lw_g (lw_at lw_m8 85 rfl) rfl
theorem q1821 : (Jvm.Cond.selects "ChoreAssignmentModel" ({ cls := "ChoreAssignmentModel", name := "fits", desc := "(I)Z" } : Jvm.MethodName) ({ cls := "ChoreAssignmentModel", name := "fits", desc := "(I)Z" } : Jvm.MethodName)) ∈ lw_all := lw_g (lw_at lw_m8 86 rfl) rfl
theorem q1822 : (Jvm.Cond.code ({ cls := "ChoreAssignmentModel", name := "fits", desc := "(I)Z" } : Jvm.MethodName) prog_7_method_58_code (2 : Nat) (Option.some Jvm.ClassFile.FieldType.boolean)) ∈ lw_all := lw_g (lw_at lw_m8 87 rfl) rfl
theorem q1823 : (Jvm.Cond.constantLong "ChoreAssignmentModel" (168 : Nat) (1000 : Int64)) ∈ lw_all := lw_g (lw_at lw_m8 88 rfl) rfl
theorem q1825 : (Jvm.Cond.instanceMethod ({ cls := "ChoreAssignmentModel", name := "countWithin", desc := "(I)I" } : Jvm.MethodName)) ∈ lw_all := lw_g (lw_at lw_m8 90 rfl) rfl
theorem q1826 : (Jvm.Cond.selects "ChoreAssignmentModel" ({ cls := "ChoreAssignmentModel", name := "countWithin", desc := "(I)I" } : Jvm.MethodName) ({ cls := "ChoreAssignmentModel", name := "countWithin", desc := "(I)I" } : Jvm.MethodName)) ∈ lw_all := lw_g (lw_at lw_m8 91 rfl) rfl
theorem q1827 : (Jvm.Cond.code ({ cls := "ChoreAssignmentModel", name := "countWithin", desc := "(I)I" } : Jvm.MethodName) prog_7_method_59_code (4 : Nat) (Option.some Jvm.ClassFile.FieldType.int)) ∈ lw_all := lw_g (lw_at lw_m8 92 rfl) rfl
theorem q1828 : (Jvm.Cond.constantLong "ChoreAssignmentModel" (170 : Nat) (7000 : Int64)) ∈ lw_all := lw_g (lw_at lw_m8 93 rfl) rfl
theorem q1830 : (Jvm.Cond.instanceMethod ({ cls := "ChoreAssignmentModel", name := "sumOf", desc := "(I)I" } : Jvm.MethodName)) ∈ lw_all := lw_g (lw_at lw_m8 95 rfl) rfl
theorem q1831 : (Jvm.Cond.selects "ChoreAssignmentModel" ({ cls := "ChoreAssignmentModel", name := "sumOf", desc := "(I)I" } : Jvm.MethodName) ({ cls := "ChoreAssignmentModel", name := "sumOf", desc := "(I)I" } : Jvm.MethodName)) ∈ lw_all := lw_g (lw_at lw_m8 96 rfl) rfl
theorem q1832 : (Jvm.Cond.code ({ cls := "ChoreAssignmentModel", name := "sumOf", desc := "(I)I" } : Jvm.MethodName) prog_7_method_60_code (7 : Nat) (Option.some Jvm.ClassFile.FieldType.int)) ∈ lw_all := lw_g (lw_at lw_m8 97 rfl) rfl
theorem q1834 : (Jvm.Cond.instanceMethod ({ cls := "ChoreAssignmentModel", name := "startEnumeration", desc := "()I" } : Jvm.MethodName)) ∈ lw_all := lw_g (lw_at lw_m8 99 rfl) rfl
theorem q1835 : (Jvm.Cond.selects "ChoreAssignmentModel" ({ cls := "ChoreAssignmentModel", name := "startEnumeration", desc := "()I" } : Jvm.MethodName) ({ cls := "ChoreAssignmentModel", name := "startEnumeration", desc := "()I" } : Jvm.MethodName)) ∈ lw_all := lw_g (lw_at lw_m8 100 rfl) rfl
theorem q1836 : (Jvm.Cond.code ({ cls := "ChoreAssignmentModel", name := "startEnumeration", desc := "()I" } : Jvm.MethodName) prog_7_method_61_code (1 : Nat) (Option.some Jvm.ClassFile.FieldType.int)) ∈ lw_all := lw_g (lw_at lw_m8 101 rfl) rfl
theorem q1838 : (Jvm.Cond.instanceMethod ({ cls := "ChoreAssignmentModel", name := "nextSum", desc := "()I" } : Jvm.MethodName)) ∈ lw_all := lw_g (lw_at lw_m8 103 rfl) rfl
theorem q1839 : (Jvm.Cond.selects "ChoreAssignmentModel" ({ cls := "ChoreAssignmentModel", name := "nextSum", desc := "()I" } : Jvm.MethodName) ({ cls := "ChoreAssignmentModel", name := "nextSum", desc := "()I" } : Jvm.MethodName)) ∈ lw_all := lw_g (lw_at lw_m8 104 rfl) rfl
theorem q1840 : (Jvm.Cond.code ({ cls := "ChoreAssignmentModel", name := "nextSum", desc := "()I" } : Jvm.MethodName) prog_7_method_62_code (7 : Nat) (Option.some Jvm.ClassFile.FieldType.int)) ∈ lw_all := lw_g (lw_at lw_m8 105 rfl) rfl
theorem q1842 : (Jvm.Cond.instanceMethod ({ cls := "ChoreAssignmentModel", name := "currentColumn", desc := "(I)I" } : Jvm.MethodName)) ∈ lw_all := lw_g (lw_at lw_m8 107 rfl) rfl
theorem q1843 : (Jvm.Cond.selects "ChoreAssignmentModel" ({ cls := "ChoreAssignmentModel", name := "currentColumn", desc := "(I)I" } : Jvm.MethodName) ({ cls := "ChoreAssignmentModel", name := "currentColumn", desc := "(I)I" } : Jvm.MethodName)) ∈ lw_all := lw_g (lw_at lw_m8 108 rfl) rfl
theorem q1844 : (Jvm.Cond.code ({ cls := "ChoreAssignmentModel", name := "currentColumn", desc := "(I)I" } : Jvm.MethodName) prog_7_method_63_code (2 : Nat) (Option.some Jvm.ClassFile.FieldType.int)) ∈ lw_all := lw_g (lw_at lw_m8 109 rfl) rfl
theorem q1846 : (Jvm.Cond.instanceMethod ({ cls := "ChoreAssignmentModel", name := "stepsMade", desc := "()I" } : Jvm.MethodName)) ∈ lw_all := lw_g (lw_at lw_m8 111 rfl) rfl
theorem q1847 : (Jvm.Cond.selects "ChoreAssignmentModel" ({ cls := "ChoreAssignmentModel", name := "stepsMade", desc := "()I" } : Jvm.MethodName) ({ cls := "ChoreAssignmentModel", name := "stepsMade", desc := "()I" } : Jvm.MethodName)) ∈ lw_all := lw_g (lw_at lw_m8 112 rfl) rfl
theorem q1848 : (Jvm.Cond.code ({ cls := "ChoreAssignmentModel", name := "stepsMade", desc := "()I" } : Jvm.MethodName) prog_7_method_64_code (1 : Nat) (Option.some Jvm.ClassFile.FieldType.int)) ∈ lw_all := lw_g (lw_at lw_m8 113 rfl) rfl
theorem q1850 : (Jvm.Cond.instanceMethod ({ cls := "ChoreAssignmentModel", name := "meanCost", desc := "()D" } : Jvm.MethodName)) ∈ lw_all := lw_g (lw_at lw_m8 115 rfl) rfl
theorem q1851 : (Jvm.Cond.selects "ChoreAssignmentModel" ({ cls := "ChoreAssignmentModel", name := "meanCost", desc := "()D" } : Jvm.MethodName) ({ cls := "ChoreAssignmentModel", name := "meanCost", desc := "()D" } : Jvm.MethodName)) ∈ lw_all := lw_g (lw_at lw_m8 116 rfl) rfl
theorem q1852 : (Jvm.Cond.code ({ cls := "ChoreAssignmentModel", name := "meanCost", desc := "()D" } : Jvm.MethodName) prog_7_method_65_code (1 : Nat) (Option.some Jvm.ClassFile.FieldType.double)) ∈ lw_all := lw_g (lw_at lw_m8 117 rfl) rfl
theorem q1854 : (Jvm.Cond.instanceMethod ({ cls := "ChoreAssignmentModel", name := "shareOf", desc := "(I)F" } : Jvm.MethodName)) ∈ lw_all := lw_g (lw_at lw_m8 119 rfl) rfl
theorem q1855 : (Jvm.Cond.selects "ChoreAssignmentModel" ({ cls := "ChoreAssignmentModel", name := "shareOf", desc := "(I)F" } : Jvm.MethodName) ({ cls := "ChoreAssignmentModel", name := "shareOf", desc := "(I)F" } : Jvm.MethodName)) ∈ lw_all := lw_g (lw_at lw_m8 120 rfl) rfl
theorem q1856 : (Jvm.Cond.code ({ cls := "ChoreAssignmentModel", name := "shareOf", desc := "(I)F" } : Jvm.MethodName) prog_7_method_66_code (2 : Nat) (Option.some Jvm.ClassFile.FieldType.float)) ∈ lw_all := lw_g (lw_at lw_m8 121 rfl) rfl
theorem q1858 : (Jvm.Cond.instanceMethod ({ cls := "ChoreAssignmentModel", name := "checksum", desc := "()J" } : Jvm.MethodName)) ∈ lw_all := lw_g (lw_at lw_m8 123 rfl) rfl
theorem q1859 : (Jvm.Cond.selects "ChoreAssignmentModel" ({ cls := "ChoreAssignmentModel", name := "checksum", desc := "()J" } : Jvm.MethodName) ({ cls := "ChoreAssignmentModel", name := "checksum", desc := "()J" } : Jvm.MethodName)) ∈ lw_all := lw_g (lw_at lw_m8 124 rfl) rfl
theorem q1860 : (Jvm.Cond.code ({ cls := "ChoreAssignmentModel", name := "checksum", desc := "()J" } : Jvm.MethodName) prog_7_method_67_code (5 : Nat) (Option.some Jvm.ClassFile.FieldType.long)) ∈ lw_all := lw_g (lw_at lw_m8 125 rfl) rfl
theorem q1861 : (Jvm.Cond.constantLong "ChoreAssignmentModel" (178 : Nat) (527 : Int64)) ∈ lw_all := lw_g (lw_at lw_m8 126 rfl) rfl
theorem q1862 : (Jvm.Cond.constantLong "ChoreAssignmentModel" (180 : Nat) (31 : Int64)) ∈ lw_all := lw_g (lw_at lw_m8 127 rfl) rfl
theorem q1864 : (Jvm.Cond.instanceMethod ({ cls := "ChoreAssignmentModel", name := "isSound", desc := "()Z" } : Jvm.MethodName)) ∈ lw_all := lw_g (lw_at lw_m8 129 rfl) rfl
theorem q1865 : (Jvm.Cond.selects "ChoreAssignmentModel" ({ cls := "ChoreAssignmentModel", name := "isSound", desc := "()Z" } : Jvm.MethodName) ({ cls := "ChoreAssignmentModel", name := "isSound", desc := "()Z" } : Jvm.MethodName)) ∈ lw_all := lw_g (lw_at lw_m8 130 rfl) rfl
theorem q1866 : (Jvm.Cond.code ({ cls := "ChoreAssignmentModel", name := "isSound", desc := "()Z" } : Jvm.MethodName) prog_7_method_68_code (5 : Nat) (Option.some Jvm.ClassFile.FieldType.boolean)) ∈ lw_all := lw_g (lw_at lw_m8 131 rfl) rfl
theorem q1867 : (Jvm.Cond.methodLink "ChoreAssignmentModel" (182 : Nat) ({ cls := "ChoreAssignmentModel", name := "fits", desc := "(I)Z" } : Jvm.MethodName)) ∈ lw_all := lw_g (lw_at lw_m8 132 rfl) rfl
theorem q1890 : (Jvm.Cond.castable "ChoreAssignmentModel" "java/lang/Object") ∈ lw_tbl := lw_at lw_m8 155 rfl
theorem in_X4 : ∀ w ∈ wsX40, w ∈ lw_all := lw_in wsX40 [1542, 1544, 1546, 1548, 1550, 1552, 1554, 1556, 1558, 1560, 1562, 1564, 1566, 1568, 1570, 1572, 1574, 1576, 1578, 1580, 1582, 1584, 1586, 1588] (by decide +kernel) (by decide +kernel)

