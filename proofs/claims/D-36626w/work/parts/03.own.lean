/-! ChoreAssignment -/
set_option maxRecDepth 100000
def RX1 : String := "ChoreAssignment"
def TX1 : u_T := fun k => match k with
  | 0 => ("ChoreAssignment", "n", "I", false)
  | 1 => ("ChoreAssignment", "m", "I", false)
  | 2 => ("ChoreAssignment", "numbers", "Ljava/util/ArrayList;", false)
  | 3 => ("ChoreAssignment", "savedN", "I", false)
  | 4 => ("ChoreAssignment", "savedM", "I", false)
  | 5 => ("ChoreAssignment", "savedNumbers", "Ljava/util/ArrayList;", false)
  | 6 => ("ChoreAssignment", "size", "I", false)
  | 7 => ("ChoreAssignment", "cost", "[[I", true)
  | 8 => ("ChoreAssignment", "rowDual", "[I", true)
  | 9 => ("ChoreAssignment", "columnDual", "[I", true)
  | 10 => ("ChoreAssignment", "rowOf", "[I", true)
  | 11 => ("ChoreAssignment", "columnOf", "[I", true)
  | 12 => ("ChoreAssignment", "distance", "[I", true)
  | 13 => ("ChoreAssignment", "from", "[I", true)
  | 14 => ("ChoreAssignment", "isSettled", "[Z", true)
  | 15 => ("ChoreAssignment", "ways", "Ljava/util/PriorityQueue;", true)
  | 16 => ("ChoreAssignment", "found", "I", false)
  | 17 => ("ChoreAssignment", "goingOn", "[I", true)
  | 18 => ("ChoreAssignment", "rowPotentials", "[I", true)
  | 19 => ("ChoreAssignment", "columnPotentials", "[I", true)
  | 20 => ("ChoreAssignment", "parts", "Ljava/util/PriorityQueue;", true)
  | 21 => ("ChoreAssignment", "reduced", "[[I", true)
  | 22 => ("ChoreAssignment", "least", "I", false)
  | 23 => ("ChoreAssignment", "isActive", "Z", false)
  | 24 => ("ChoreAssignment", "steps", "I", false)
  | _ => ("ChoreAssignment", "lastCode", "I", false)
def tyX1 : Nat → FieldType := fun k => match k with
  | 0 => .int
  | 1 => .int
  | 2 => .object "java/util/ArrayList"
  | 3 => .int
  | 4 => .int
  | 5 => .object "java/util/ArrayList"
  | 6 => .int
  | 7 => .array (.array .int)
  | 8 => .array .int
  | 9 => .array .int
  | 10 => .array .int
  | 11 => .array .int
  | 12 => .array .int
  | 13 => .array .int
  | 14 => .array .boolean
  | 15 => .object "java/util/PriorityQueue"
  | 16 => .int
  | 17 => .array .int
  | 18 => .array .int
  | 19 => .array .int
  | 20 => .object "java/util/PriorityQueue"
  | 21 => .array (.array .int)
  | 22 => .int
  | 23 => .boolean
  | 24 => .int
  | _ => .int
abbrev wsX10 : List Cond := u_ws RX1 TX1 26
set_option maxRecDepth 100000 in
theorem nmX1 : ∀ a, a < 26 → ∀ b, b < 26 → a ≠ b → (TX1 a).2.1 ≠ (TX1 b).2.1 := by decide +kernel
set_option maxRecDepth 100000 in
theorem tyX1_ok : ∀ k, k < 26 → parseFieldDescriptor (TX1 k).2.2.1 = some (tyX1 k) := by decide +kernel
abbrev cX1_init : ByteArray := prog_1_method_1_code
def yX1_init : MethodName := ⟨RX1, "<init>", "()V"⟩
def dkwX1_init_7 : List UInt8 := [183, 0, 66, 181, 0, 85, 42, 16, 7, 16, 7, 197, 0, 33, 2, 181, 0, 88, 177]
abbrev dktX1_init_7 : List UInt8 := dkwX1_init_7 ++ []
def dkwX1_init_6 : List UInt8 := [181, 0, 76, 42, 16, 7, 188, 10, 181, 0, 79, 42, 187, 0, 61, 89, 187, 0, 82, 89, 183, 0, 84]
abbrev dktX1_init_6 : List UInt8 := dkwX1_init_6 ++ dktX1_init_7
def dkwX1_init_5 : List UInt8 := [183, 0, 65, 183, 0, 66, 181, 0, 69, 42, 17, 0, 128, 188, 10, 181, 0, 73, 42, 16, 7, 188, 10]
abbrev dktX1_init_5 : List UInt8 := dkwX1_init_5 ++ dktX1_init_6
def dkwX1_init_4 : List UInt8 := [16, 7, 188, 10, 181, 0, 54, 42, 16, 7, 188, 4, 181, 0, 57, 42, 187, 0, 61, 89, 187, 0, 63, 89]
abbrev dktX1_init_4 : List UInt8 := dkwX1_init_4 ++ dktX1_init_5
def dkwX1_init_3 : List UInt8 := [16, 7, 188, 10, 181, 0, 45, 42, 16, 7, 188, 10, 181, 0, 48, 42, 16, 7, 188, 10, 181, 0, 51, 42]
abbrev dktX1_init_3 : List UInt8 := dkwX1_init_3 ++ dktX1_init_4
def dkwX1_init_2 : List UInt8 := [197, 0, 33, 2, 181, 0, 35, 42, 16, 7, 188, 10, 181, 0, 38, 42, 16, 7, 188, 10, 181, 0, 42, 42]
abbrev dktX1_init_2 : List UInt8 := dkwX1_init_2 ++ dktX1_init_3
def dkwX1_init_1 : List UInt8 := [4, 181, 0, 24, 42, 4, 181, 0, 27, 42, 4, 4, 184, 0, 16, 181, 0, 30, 42, 16, 7, 16, 7]
abbrev dktX1_init_1 : List UInt8 := dkwX1_init_1 ++ dktX1_init_2
def dkwX1_init_0 : List UInt8 := [42, 183, 0, 1, 42, 4, 181, 0, 7, 42, 4, 181, 0, 13, 42, 4, 4, 184, 0, 16, 181, 0, 20, 42]
abbrev dktX1_init_0 : List UInt8 := dkwX1_init_0 ++ dktX1_init_1
theorem dksX1_init_0 : cX1_init.data.toList.drop 0 = dktX1_init_0 := by decide +kernel
theorem dksX1_init_1 : cX1_init.data.toList.drop 24 = dktX1_init_1 := dk_seg dksX1_init_0 24 rfl rfl
theorem dksX1_init_2 : cX1_init.data.toList.drop 47 = dktX1_init_2 := dk_seg dksX1_init_1 23 rfl rfl
theorem dksX1_init_3 : cX1_init.data.toList.drop 71 = dktX1_init_3 := dk_seg dksX1_init_2 24 rfl rfl
theorem dksX1_init_4 : cX1_init.data.toList.drop 95 = dktX1_init_4 := dk_seg dksX1_init_3 24 rfl rfl
theorem dksX1_init_5 : cX1_init.data.toList.drop 119 = dktX1_init_5 := dk_seg dksX1_init_4 24 rfl rfl
theorem dksX1_init_6 : cX1_init.data.toList.drop 142 = dktX1_init_6 := dk_seg dksX1_init_5 23 rfl rfl
theorem dksX1_init_7 : cX1_init.data.toList.drop 165 = dktX1_init_7 := dk_seg dksX1_init_6 23 rfl rfl
theorem dX1_init_0 : decode cX1_init 0 = .ok (.aload_n 0, 1) := dk_42 (dk_at dksX1_init_0 0 rfl rfl)
theorem dX1_init_1 : decode cX1_init 1 = .ok (.invokespecial 1, 3) := dk_183 0 1 (dk_at dksX1_init_0 1 rfl rfl)
theorem dX1_init_4 : decode cX1_init 4 = .ok (.aload_n 0, 1) := dk_42 (dk_at dksX1_init_0 4 rfl rfl)
theorem dX1_init_5 : decode cX1_init 5 = .ok (.iconst 1, 1) := dk_4 (dk_at dksX1_init_0 5 rfl rfl)
theorem dX1_init_6 : decode cX1_init 6 = .ok (.putfield 7, 3) := dk_181 0 7 (dk_at dksX1_init_0 6 rfl rfl)
theorem dX1_init_9 : decode cX1_init 9 = .ok (.aload_n 0, 1) := dk_42 (dk_at dksX1_init_0 9 rfl rfl)
theorem dX1_init_10 : decode cX1_init 10 = .ok (.iconst 1, 1) := dk_4 (dk_at dksX1_init_0 10 rfl rfl)
theorem dX1_init_11 : decode cX1_init 11 = .ok (.putfield 13, 3) := dk_181 0 13 (dk_at dksX1_init_0 11 rfl rfl)
theorem dX1_init_14 : decode cX1_init 14 = .ok (.aload_n 0, 1) := dk_42 (dk_at dksX1_init_0 14 rfl rfl)
theorem dX1_init_15 : decode cX1_init 15 = .ok (.iconst 1, 1) := dk_4 (dk_at dksX1_init_0 15 rfl rfl)
theorem dX1_init_16 : decode cX1_init 16 = .ok (.iconst 1, 1) := dk_4 (dk_at dksX1_init_0 16 rfl rfl)
theorem dX1_init_17 : decode cX1_init 17 = .ok (.invokestatic 16, 3) := dk_184 0 16 (dk_at dksX1_init_0 17 rfl rfl)
theorem dX1_init_20 : decode cX1_init 20 = .ok (.putfield 20, 3) := dk_181 0 20 (dk_at dksX1_init_0 20 rfl rfl)
theorem dX1_init_23 : decode cX1_init 23 = .ok (.aload_n 0, 1) := dk_42 (dk_at dksX1_init_0 23 rfl rfl)
theorem dX1_init_24 : decode cX1_init 24 = .ok (.iconst 1, 1) := dk_4 (dk_at dksX1_init_1 0 rfl rfl)
theorem dX1_init_25 : decode cX1_init 25 = .ok (.putfield 24, 3) := dk_181 0 24 (dk_at dksX1_init_1 1 rfl rfl)
theorem dX1_init_28 : decode cX1_init 28 = .ok (.aload_n 0, 1) := dk_42 (dk_at dksX1_init_1 4 rfl rfl)
theorem dX1_init_29 : decode cX1_init 29 = .ok (.iconst 1, 1) := dk_4 (dk_at dksX1_init_1 5 rfl rfl)
theorem dX1_init_30 : decode cX1_init 30 = .ok (.putfield 27, 3) := dk_181 0 27 (dk_at dksX1_init_1 6 rfl rfl)
theorem dX1_init_33 : decode cX1_init 33 = .ok (.aload_n 0, 1) := dk_42 (dk_at dksX1_init_1 9 rfl rfl)
theorem dX1_init_34 : decode cX1_init 34 = .ok (.iconst 1, 1) := dk_4 (dk_at dksX1_init_1 10 rfl rfl)
theorem dX1_init_35 : decode cX1_init 35 = .ok (.iconst 1, 1) := dk_4 (dk_at dksX1_init_1 11 rfl rfl)
theorem dX1_init_36 : decode cX1_init 36 = .ok (.invokestatic 16, 3) := dk_184 0 16 (dk_at dksX1_init_1 12 rfl rfl)
theorem dX1_init_39 : decode cX1_init 39 = .ok (.putfield 30, 3) := dk_181 0 30 (dk_at dksX1_init_1 15 rfl rfl)
theorem dX1_init_42 : decode cX1_init 42 = .ok (.aload_n 0, 1) := dk_42 (dk_at dksX1_init_1 18 rfl rfl)
theorem dX1_init_43 : decode cX1_init 43 = .ok (.bipush 7, 2) := dk_16 7 (dk_at dksX1_init_1 19 rfl rfl)
theorem dX1_init_45 : decode cX1_init 45 = .ok (.bipush 7, 2) := dk_16 7 (dk_at dksX1_init_1 21 rfl rfl)
theorem dX1_init_47 : decode cX1_init 47 = .ok (.multianewarray 33 2, 4) := by decide +kernel
theorem dX1_init_51 : decode cX1_init 51 = .ok (.putfield 35, 3) := dk_181 0 35 (dk_at dksX1_init_2 4 rfl rfl)
theorem dX1_init_54 : decode cX1_init 54 = .ok (.aload_n 0, 1) := dk_42 (dk_at dksX1_init_2 7 rfl rfl)
theorem dX1_init_55 : decode cX1_init 55 = .ok (.bipush 7, 2) := dk_16 7 (dk_at dksX1_init_2 8 rfl rfl)
theorem dX1_init_57 : decode cX1_init 57 = .ok (.newarray .int, 2) := dk_188_10 (dk_at dksX1_init_2 10 rfl rfl)
theorem dX1_init_59 : decode cX1_init 59 = .ok (.putfield 38, 3) := dk_181 0 38 (dk_at dksX1_init_2 12 rfl rfl)
theorem dX1_init_62 : decode cX1_init 62 = .ok (.aload_n 0, 1) := dk_42 (dk_at dksX1_init_2 15 rfl rfl)
theorem dX1_init_63 : decode cX1_init 63 = .ok (.bipush 7, 2) := dk_16 7 (dk_at dksX1_init_2 16 rfl rfl)
theorem dX1_init_65 : decode cX1_init 65 = .ok (.newarray .int, 2) := dk_188_10 (dk_at dksX1_init_2 18 rfl rfl)
theorem dX1_init_67 : decode cX1_init 67 = .ok (.putfield 42, 3) := dk_181 0 42 (dk_at dksX1_init_2 20 rfl rfl)
theorem dX1_init_70 : decode cX1_init 70 = .ok (.aload_n 0, 1) := dk_42 (dk_at dksX1_init_2 23 rfl rfl)
theorem dX1_init_71 : decode cX1_init 71 = .ok (.bipush 7, 2) := dk_16 7 (dk_at dksX1_init_3 0 rfl rfl)
theorem dX1_init_73 : decode cX1_init 73 = .ok (.newarray .int, 2) := dk_188_10 (dk_at dksX1_init_3 2 rfl rfl)
theorem dX1_init_75 : decode cX1_init 75 = .ok (.putfield 45, 3) := dk_181 0 45 (dk_at dksX1_init_3 4 rfl rfl)
theorem dX1_init_78 : decode cX1_init 78 = .ok (.aload_n 0, 1) := dk_42 (dk_at dksX1_init_3 7 rfl rfl)
theorem dX1_init_79 : decode cX1_init 79 = .ok (.bipush 7, 2) := dk_16 7 (dk_at dksX1_init_3 8 rfl rfl)
theorem dX1_init_81 : decode cX1_init 81 = .ok (.newarray .int, 2) := dk_188_10 (dk_at dksX1_init_3 10 rfl rfl)
theorem dX1_init_83 : decode cX1_init 83 = .ok (.putfield 48, 3) := dk_181 0 48 (dk_at dksX1_init_3 12 rfl rfl)
theorem dX1_init_86 : decode cX1_init 86 = .ok (.aload_n 0, 1) := dk_42 (dk_at dksX1_init_3 15 rfl rfl)
theorem dX1_init_87 : decode cX1_init 87 = .ok (.bipush 7, 2) := dk_16 7 (dk_at dksX1_init_3 16 rfl rfl)
theorem dX1_init_89 : decode cX1_init 89 = .ok (.newarray .int, 2) := dk_188_10 (dk_at dksX1_init_3 18 rfl rfl)
theorem dX1_init_91 : decode cX1_init 91 = .ok (.putfield 51, 3) := dk_181 0 51 (dk_at dksX1_init_3 20 rfl rfl)
theorem dX1_init_94 : decode cX1_init 94 = .ok (.aload_n 0, 1) := dk_42 (dk_at dksX1_init_3 23 rfl rfl)
theorem dX1_init_95 : decode cX1_init 95 = .ok (.bipush 7, 2) := dk_16 7 (dk_at dksX1_init_4 0 rfl rfl)
theorem dX1_init_97 : decode cX1_init 97 = .ok (.newarray .int, 2) := dk_188_10 (dk_at dksX1_init_4 2 rfl rfl)
theorem dX1_init_99 : decode cX1_init 99 = .ok (.putfield 54, 3) := dk_181 0 54 (dk_at dksX1_init_4 4 rfl rfl)
theorem dX1_init_102 : decode cX1_init 102 = .ok (.aload_n 0, 1) := dk_42 (dk_at dksX1_init_4 7 rfl rfl)
theorem dX1_init_103 : decode cX1_init 103 = .ok (.bipush 7, 2) := dk_16 7 (dk_at dksX1_init_4 8 rfl rfl)
theorem dX1_init_105 : decode cX1_init 105 = .ok (.newarray .boolean, 2) := dk_188_4 (dk_at dksX1_init_4 10 rfl rfl)
theorem dX1_init_107 : decode cX1_init 107 = .ok (.putfield 57, 3) := dk_181 0 57 (dk_at dksX1_init_4 12 rfl rfl)
theorem dX1_init_110 : decode cX1_init 110 = .ok (.aload_n 0, 1) := dk_42 (dk_at dksX1_init_4 15 rfl rfl)
theorem dX1_init_111 : decode cX1_init 111 = .ok (.new 61, 3) := dk_187 0 61 (dk_at dksX1_init_4 16 rfl rfl)
theorem dX1_init_114 : decode cX1_init 114 = .ok (.dup, 1) := dk_89 (dk_at dksX1_init_4 19 rfl rfl)
theorem dX1_init_115 : decode cX1_init 115 = .ok (.new 63, 3) := dk_187 0 63 (dk_at dksX1_init_4 20 rfl rfl)
theorem dX1_init_118 : decode cX1_init 118 = .ok (.dup, 1) := dk_89 (dk_at dksX1_init_4 23 rfl rfl)
theorem dX1_init_119 : decode cX1_init 119 = .ok (.invokespecial 65, 3) := dk_183 0 65 (dk_at dksX1_init_5 0 rfl rfl)
theorem dX1_init_122 : decode cX1_init 122 = .ok (.invokespecial 66, 3) := dk_183 0 66 (dk_at dksX1_init_5 3 rfl rfl)
theorem dX1_init_125 : decode cX1_init 125 = .ok (.putfield 69, 3) := dk_181 0 69 (dk_at dksX1_init_5 6 rfl rfl)
theorem dX1_init_128 : decode cX1_init 128 = .ok (.aload_n 0, 1) := dk_42 (dk_at dksX1_init_5 9 rfl rfl)
theorem dX1_init_129 : decode cX1_init 129 = .ok (.sipush 128, 3) := dk_17 0 128 (dk_at dksX1_init_5 10 rfl rfl)
theorem dX1_init_132 : decode cX1_init 132 = .ok (.newarray .int, 2) := dk_188_10 (dk_at dksX1_init_5 13 rfl rfl)
theorem dX1_init_134 : decode cX1_init 134 = .ok (.putfield 73, 3) := dk_181 0 73 (dk_at dksX1_init_5 15 rfl rfl)
theorem dX1_init_137 : decode cX1_init 137 = .ok (.aload_n 0, 1) := dk_42 (dk_at dksX1_init_5 18 rfl rfl)
theorem dX1_init_138 : decode cX1_init 138 = .ok (.bipush 7, 2) := dk_16 7 (dk_at dksX1_init_5 19 rfl rfl)
theorem dX1_init_140 : decode cX1_init 140 = .ok (.newarray .int, 2) := dk_188_10 (dk_at dksX1_init_5 21 rfl rfl)
theorem dX1_init_142 : decode cX1_init 142 = .ok (.putfield 76, 3) := dk_181 0 76 (dk_at dksX1_init_6 0 rfl rfl)
theorem dX1_init_145 : decode cX1_init 145 = .ok (.aload_n 0, 1) := dk_42 (dk_at dksX1_init_6 3 rfl rfl)
theorem dX1_init_146 : decode cX1_init 146 = .ok (.bipush 7, 2) := dk_16 7 (dk_at dksX1_init_6 4 rfl rfl)
theorem dX1_init_148 : decode cX1_init 148 = .ok (.newarray .int, 2) := dk_188_10 (dk_at dksX1_init_6 6 rfl rfl)
theorem dX1_init_150 : decode cX1_init 150 = .ok (.putfield 79, 3) := dk_181 0 79 (dk_at dksX1_init_6 8 rfl rfl)
theorem dX1_init_153 : decode cX1_init 153 = .ok (.aload_n 0, 1) := dk_42 (dk_at dksX1_init_6 11 rfl rfl)
theorem dX1_init_154 : decode cX1_init 154 = .ok (.new 61, 3) := dk_187 0 61 (dk_at dksX1_init_6 12 rfl rfl)
theorem dX1_init_157 : decode cX1_init 157 = .ok (.dup, 1) := dk_89 (dk_at dksX1_init_6 15 rfl rfl)
theorem dX1_init_158 : decode cX1_init 158 = .ok (.new 82, 3) := dk_187 0 82 (dk_at dksX1_init_6 16 rfl rfl)
theorem dX1_init_161 : decode cX1_init 161 = .ok (.dup, 1) := dk_89 (dk_at dksX1_init_6 19 rfl rfl)
theorem dX1_init_162 : decode cX1_init 162 = .ok (.invokespecial 84, 3) := dk_183 0 84 (dk_at dksX1_init_6 20 rfl rfl)
theorem dX1_init_165 : decode cX1_init 165 = .ok (.invokespecial 66, 3) := dk_183 0 66 (dk_at dksX1_init_7 0 rfl rfl)
theorem dX1_init_168 : decode cX1_init 168 = .ok (.putfield 85, 3) := dk_181 0 85 (dk_at dksX1_init_7 3 rfl rfl)
theorem dX1_init_171 : decode cX1_init 171 = .ok (.aload_n 0, 1) := dk_42 (dk_at dksX1_init_7 6 rfl rfl)
theorem dX1_init_172 : decode cX1_init 172 = .ok (.bipush 7, 2) := dk_16 7 (dk_at dksX1_init_7 7 rfl rfl)
theorem dX1_init_174 : decode cX1_init 174 = .ok (.bipush 7, 2) := dk_16 7 (dk_at dksX1_init_7 9 rfl rfl)
theorem dX1_init_176 : decode cX1_init 176 = .ok (.multianewarray 33 2, 4) := by decide +kernel
theorem dX1_init_180 : decode cX1_init 180 = .ok (.putfield 88, 3) := dk_181 0 88 (dk_at dksX1_init_7 15 rfl rfl)
theorem dX1_init_183 : decode cX1_init 183 = .ok (.return_, 1) := dk_177 (dk_at dksX1_init_7 18 rfl rfl)
abbrev cX1_zeros : ByteArray := prog_1_method_2_code
def yX1_zeros : MethodName := ⟨RX1, "zeros", "(II)Ljava/util/ArrayList;"⟩
def dkwX1_zeros_2 : List UInt8 := [167, 255, 237, 44, 25, 4, 182, 0, 100, 87, 132, 3, 1, 167, 255, 207, 44, 176]
abbrev dktX1_zeros_2 : List UInt8 := dkwX1_zeros_2 ++ []
def dkwX1_zeros_1 : List UInt8 := [3, 54, 5, 21, 5, 27, 162, 0, 19, 25, 4, 3, 184, 0, 94, 182, 0, 100, 87, 132, 5, 1]
abbrev dktX1_zeros_1 : List UInt8 := dkwX1_zeros_1 ++ dktX1_zeros_2
def dkwX1_zeros_0 : List UInt8 := [187, 0, 91, 89, 183, 0, 93, 77, 3, 62, 29, 26, 162, 0, 50, 187, 0, 91, 89, 183, 0, 93, 58, 4]
abbrev dktX1_zeros_0 : List UInt8 := dkwX1_zeros_0 ++ dktX1_zeros_1
theorem dksX1_zeros_0 : cX1_zeros.data.toList.drop 0 = dktX1_zeros_0 := by decide +kernel
theorem dksX1_zeros_1 : cX1_zeros.data.toList.drop 24 = dktX1_zeros_1 := dk_seg dksX1_zeros_0 24 rfl rfl
theorem dksX1_zeros_2 : cX1_zeros.data.toList.drop 46 = dktX1_zeros_2 := dk_seg dksX1_zeros_1 22 rfl rfl
theorem dX1_zeros_0 : decode cX1_zeros 0 = .ok (.new 91, 3) := dk_187 0 91 (dk_at dksX1_zeros_0 0 rfl rfl)
theorem dX1_zeros_3 : decode cX1_zeros 3 = .ok (.dup, 1) := dk_89 (dk_at dksX1_zeros_0 3 rfl rfl)
theorem dX1_zeros_4 : decode cX1_zeros 4 = .ok (.invokespecial 93, 3) := dk_183 0 93 (dk_at dksX1_zeros_0 4 rfl rfl)
theorem dX1_zeros_7 : decode cX1_zeros 7 = .ok (.astore_n 2, 1) := dk_77 (dk_at dksX1_zeros_0 7 rfl rfl)
theorem dX1_zeros_8 : decode cX1_zeros 8 = .ok (.iconst 0, 1) := dk_3 (dk_at dksX1_zeros_0 8 rfl rfl)
theorem dX1_zeros_9 : decode cX1_zeros 9 = .ok (.istore_n 3, 1) := dk_62 (dk_at dksX1_zeros_0 9 rfl rfl)
theorem dX1_zeros_10 : decode cX1_zeros 10 = .ok (.iload_n 3, 1) := dk_29 (dk_at dksX1_zeros_0 10 rfl rfl)
theorem dX1_zeros_11 : decode cX1_zeros 11 = .ok (.iload_n 0, 1) := dk_26 (dk_at dksX1_zeros_0 11 rfl rfl)
theorem dX1_zeros_12 : decode cX1_zeros 12 = .ok (.if_icmp .ge 50, 3) := dk_162 0 50 (dk_at dksX1_zeros_0 12 rfl rfl)
theorem dX1_zeros_15 : decode cX1_zeros 15 = .ok (.new 91, 3) := dk_187 0 91 (dk_at dksX1_zeros_0 15 rfl rfl)
theorem dX1_zeros_18 : decode cX1_zeros 18 = .ok (.dup, 1) := dk_89 (dk_at dksX1_zeros_0 18 rfl rfl)
theorem dX1_zeros_19 : decode cX1_zeros 19 = .ok (.invokespecial 93, 3) := dk_183 0 93 (dk_at dksX1_zeros_0 19 rfl rfl)
theorem dX1_zeros_22 : decode cX1_zeros 22 = .ok (.astore 4, 2) := dk_58 4 (dk_at dksX1_zeros_0 22 rfl rfl)
theorem dX1_zeros_24 : decode cX1_zeros 24 = .ok (.iconst 0, 1) := dk_3 (dk_at dksX1_zeros_1 0 rfl rfl)
theorem dX1_zeros_25 : decode cX1_zeros 25 = .ok (.istore 5, 2) := dk_54 5 (dk_at dksX1_zeros_1 1 rfl rfl)
theorem dX1_zeros_27 : decode cX1_zeros 27 = .ok (.iload 5, 2) := dk_21 5 (dk_at dksX1_zeros_1 3 rfl rfl)
theorem dX1_zeros_29 : decode cX1_zeros 29 = .ok (.iload_n 1, 1) := dk_27 (dk_at dksX1_zeros_1 5 rfl rfl)
theorem dX1_zeros_30 : decode cX1_zeros 30 = .ok (.if_icmp .ge 19, 3) := dk_162 0 19 (dk_at dksX1_zeros_1 6 rfl rfl)
theorem dX1_zeros_33 : decode cX1_zeros 33 = .ok (.aload 4, 2) := dk_25 4 (dk_at dksX1_zeros_1 9 rfl rfl)
theorem dX1_zeros_35 : decode cX1_zeros 35 = .ok (.iconst 0, 1) := dk_3 (dk_at dksX1_zeros_1 11 rfl rfl)
theorem dX1_zeros_36 : decode cX1_zeros 36 = .ok (.invokestatic 94, 3) := dk_184 0 94 (dk_at dksX1_zeros_1 12 rfl rfl)
theorem dX1_zeros_39 : decode cX1_zeros 39 = .ok (.invokevirtual 100, 3) := dk_182 0 100 (dk_at dksX1_zeros_1 15 rfl rfl)
theorem dX1_zeros_42 : decode cX1_zeros 42 = .ok (.pop, 1) := dk_87 (dk_at dksX1_zeros_1 18 rfl rfl)
theorem dX1_zeros_43 : decode cX1_zeros 43 = .ok (.iinc 5 1, 3) := dk_132 5 1 (dk_at dksX1_zeros_1 19 rfl rfl)
theorem dX1_zeros_46 : decode cX1_zeros 46 = .ok (.goto (-19), 3) := dk_167 255 237 (dk_at dksX1_zeros_2 0 rfl rfl)
theorem dX1_zeros_49 : decode cX1_zeros 49 = .ok (.aload_n 2, 1) := dk_44 (dk_at dksX1_zeros_2 3 rfl rfl)
theorem dX1_zeros_50 : decode cX1_zeros 50 = .ok (.aload 4, 2) := dk_25 4 (dk_at dksX1_zeros_2 4 rfl rfl)
theorem dX1_zeros_52 : decode cX1_zeros 52 = .ok (.invokevirtual 100, 3) := dk_182 0 100 (dk_at dksX1_zeros_2 6 rfl rfl)
theorem dX1_zeros_55 : decode cX1_zeros 55 = .ok (.pop, 1) := dk_87 (dk_at dksX1_zeros_2 9 rfl rfl)
theorem dX1_zeros_56 : decode cX1_zeros 56 = .ok (.iinc 3 1, 3) := dk_132 3 1 (dk_at dksX1_zeros_2 10 rfl rfl)
theorem dX1_zeros_59 : decode cX1_zeros 59 = .ok (.goto (-49), 3) := dk_167 255 207 (dk_at dksX1_zeros_2 13 rfl rfl)
theorem dX1_zeros_62 : decode cX1_zeros 62 = .ok (.aload_n 2, 1) := dk_44 (dk_at dksX1_zeros_2 16 rfl rfl)
theorem dX1_zeros_63 : decode cX1_zeros 63 = .ok (.areturn, 1) := dk_176 (dk_at dksX1_zeros_2 17 rfl rfl)
abbrev cX1_save : ByteArray := prog_1_method_29_code
def yX1_save : MethodName := ⟨RX1, "save", "()I"⟩
def dkwX1_save_1 : List UInt8 := [181, 0, 30, 42, 182, 0, 231, 172]
abbrev dktX1_save_1 : List UInt8 := dkwX1_save_1 ++ []
def dkwX1_save_0 : List UInt8 := [42, 42, 180, 0, 7, 181, 0, 24, 42, 42, 180, 0, 13, 181, 0, 27, 42, 42, 180, 0, 20, 184, 0, 227]
abbrev dktX1_save_0 : List UInt8 := dkwX1_save_0 ++ dktX1_save_1
theorem dksX1_save_0 : cX1_save.data.toList.drop 0 = dktX1_save_0 := by decide +kernel
theorem dksX1_save_1 : cX1_save.data.toList.drop 24 = dktX1_save_1 := dk_seg dksX1_save_0 24 rfl rfl
theorem dX1_save_0 : decode cX1_save 0 = .ok (.aload_n 0, 1) := dk_42 (dk_at dksX1_save_0 0 rfl rfl)
theorem dX1_save_1 : decode cX1_save 1 = .ok (.aload_n 0, 1) := dk_42 (dk_at dksX1_save_0 1 rfl rfl)
theorem dX1_save_2 : decode cX1_save 2 = .ok (.getfield 7, 3) := dk_180 0 7 (dk_at dksX1_save_0 2 rfl rfl)
theorem dX1_save_5 : decode cX1_save 5 = .ok (.putfield 24, 3) := dk_181 0 24 (dk_at dksX1_save_0 5 rfl rfl)
theorem dX1_save_8 : decode cX1_save 8 = .ok (.aload_n 0, 1) := dk_42 (dk_at dksX1_save_0 8 rfl rfl)
theorem dX1_save_9 : decode cX1_save 9 = .ok (.aload_n 0, 1) := dk_42 (dk_at dksX1_save_0 9 rfl rfl)
theorem dX1_save_10 : decode cX1_save 10 = .ok (.getfield 13, 3) := dk_180 0 13 (dk_at dksX1_save_0 10 rfl rfl)
theorem dX1_save_13 : decode cX1_save 13 = .ok (.putfield 27, 3) := dk_181 0 27 (dk_at dksX1_save_0 13 rfl rfl)
theorem dX1_save_16 : decode cX1_save 16 = .ok (.aload_n 0, 1) := dk_42 (dk_at dksX1_save_0 16 rfl rfl)
theorem dX1_save_17 : decode cX1_save 17 = .ok (.aload_n 0, 1) := dk_42 (dk_at dksX1_save_0 17 rfl rfl)
theorem dX1_save_18 : decode cX1_save 18 = .ok (.getfield 20, 3) := dk_180 0 20 (dk_at dksX1_save_0 18 rfl rfl)
theorem dX1_save_21 : decode cX1_save 21 = .ok (.invokestatic 227, 3) := dk_184 0 227 (dk_at dksX1_save_0 21 rfl rfl)
theorem dX1_save_24 : decode cX1_save 24 = .ok (.putfield 30, 3) := dk_181 0 30 (dk_at dksX1_save_1 0 rfl rfl)
theorem dX1_save_27 : decode cX1_save 27 = .ok (.aload_n 0, 1) := dk_42 (dk_at dksX1_save_1 3 rfl rfl)
theorem dX1_save_28 : decode cX1_save 28 = .ok (.invokevirtual 231, 3) := dk_182 0 231 (dk_at dksX1_save_1 4 rfl rfl)
theorem dX1_save_31 : decode cX1_save 31 = .ok (.ireturn, 1) := dk_172 (dk_at dksX1_save_1 7 rfl rfl)
abbrev cX1_copyOf : ByteArray := prog_1_method_3_code
def yX1_copyOf : MethodName := ⟨RX1, "copyOf", "(Ljava/util/ArrayList;)Ljava/util/ArrayList;"⟩
def dkwX1_copyOf_3 : List UInt8 := [25, 6, 182, 0, 100, 87, 167, 255, 226, 43, 25, 4, 182, 0, 100, 87, 167, 255, 182, 43, 176]
abbrev dktX1_copyOf_3 : List UInt8 := dkwX1_copyOf_3 ++ []
def dkwX1_copyOf_2 : List UInt8 := [25, 5, 185, 0, 108, 1, 0, 153, 0, 26, 25, 5, 185, 0, 114, 1, 0, 192, 0, 95, 58, 6, 25, 4]
abbrev dktX1_copyOf_2 : List UInt8 := dkwX1_copyOf_2 ++ dktX1_copyOf_3
def dkwX1_copyOf_1 : List UInt8 := [185, 0, 114, 1, 0, 192, 0, 91, 78, 187, 0, 91, 89, 183, 0, 93, 58, 4, 45, 182, 0, 104, 58, 5]
abbrev dktX1_copyOf_1 : List UInt8 := dkwX1_copyOf_1 ++ dktX1_copyOf_2
def dkwX1_copyOf_0 : List UInt8 := [187, 0, 91, 89, 183, 0, 93, 76, 42, 182, 0, 104, 77, 44, 185, 0, 108, 1, 0, 153, 0, 71, 44]
abbrev dktX1_copyOf_0 : List UInt8 := dkwX1_copyOf_0 ++ dktX1_copyOf_1
theorem dksX1_copyOf_0 : cX1_copyOf.data.toList.drop 0 = dktX1_copyOf_0 := by decide +kernel
theorem dksX1_copyOf_1 : cX1_copyOf.data.toList.drop 23 = dktX1_copyOf_1 := dk_seg dksX1_copyOf_0 23 rfl rfl
theorem dksX1_copyOf_2 : cX1_copyOf.data.toList.drop 47 = dktX1_copyOf_2 := dk_seg dksX1_copyOf_1 24 rfl rfl
theorem dksX1_copyOf_3 : cX1_copyOf.data.toList.drop 71 = dktX1_copyOf_3 := dk_seg dksX1_copyOf_2 24 rfl rfl
theorem dX1_copyOf_0 : decode cX1_copyOf 0 = .ok (.new 91, 3) := dk_187 0 91 (dk_at dksX1_copyOf_0 0 rfl rfl)
theorem dX1_copyOf_3 : decode cX1_copyOf 3 = .ok (.dup, 1) := dk_89 (dk_at dksX1_copyOf_0 3 rfl rfl)
theorem dX1_copyOf_4 : decode cX1_copyOf 4 = .ok (.invokespecial 93, 3) := dk_183 0 93 (dk_at dksX1_copyOf_0 4 rfl rfl)
theorem dX1_copyOf_7 : decode cX1_copyOf 7 = .ok (.astore_n 1, 1) := dk_76 (dk_at dksX1_copyOf_0 7 rfl rfl)
theorem dX1_copyOf_8 : decode cX1_copyOf 8 = .ok (.aload_n 0, 1) := dk_42 (dk_at dksX1_copyOf_0 8 rfl rfl)
theorem dX1_copyOf_9 : decode cX1_copyOf 9 = .ok (.invokevirtual 104, 3) := dk_182 0 104 (dk_at dksX1_copyOf_0 9 rfl rfl)
theorem dX1_copyOf_12 : decode cX1_copyOf 12 = .ok (.astore_n 2, 1) := dk_77 (dk_at dksX1_copyOf_0 12 rfl rfl)
theorem dX1_copyOf_13 : decode cX1_copyOf 13 = .ok (.aload_n 2, 1) := dk_44 (dk_at dksX1_copyOf_0 13 rfl rfl)
theorem dX1_copyOf_14 : decode cX1_copyOf 14 = .ok (.invokeinterface 108 1, 5) := by decide +kernel
theorem dX1_copyOf_19 : decode cX1_copyOf 19 = .ok (.ifCond .eq 71, 3) := dk_153 0 71 (dk_at dksX1_copyOf_0 19 rfl rfl)
theorem dX1_copyOf_22 : decode cX1_copyOf 22 = .ok (.aload_n 2, 1) := dk_44 (dk_at dksX1_copyOf_0 22 rfl rfl)
theorem dX1_copyOf_23 : decode cX1_copyOf 23 = .ok (.invokeinterface 114 1, 5) := by decide +kernel
theorem dX1_copyOf_28 : decode cX1_copyOf 28 = .ok (.checkcast 91, 3) := dk_192 0 91 (dk_at dksX1_copyOf_1 5 rfl rfl)
theorem dX1_copyOf_31 : decode cX1_copyOf 31 = .ok (.astore_n 3, 1) := dk_78 (dk_at dksX1_copyOf_1 8 rfl rfl)
theorem dX1_copyOf_32 : decode cX1_copyOf 32 = .ok (.new 91, 3) := dk_187 0 91 (dk_at dksX1_copyOf_1 9 rfl rfl)
theorem dX1_copyOf_35 : decode cX1_copyOf 35 = .ok (.dup, 1) := dk_89 (dk_at dksX1_copyOf_1 12 rfl rfl)
theorem dX1_copyOf_36 : decode cX1_copyOf 36 = .ok (.invokespecial 93, 3) := dk_183 0 93 (dk_at dksX1_copyOf_1 13 rfl rfl)
theorem dX1_copyOf_39 : decode cX1_copyOf 39 = .ok (.astore 4, 2) := dk_58 4 (dk_at dksX1_copyOf_1 16 rfl rfl)
theorem dX1_copyOf_41 : decode cX1_copyOf 41 = .ok (.aload_n 3, 1) := dk_45 (dk_at dksX1_copyOf_1 18 rfl rfl)
theorem dX1_copyOf_42 : decode cX1_copyOf 42 = .ok (.invokevirtual 104, 3) := dk_182 0 104 (dk_at dksX1_copyOf_1 19 rfl rfl)
theorem dX1_copyOf_45 : decode cX1_copyOf 45 = .ok (.astore 5, 2) := dk_58 5 (dk_at dksX1_copyOf_1 22 rfl rfl)
theorem dX1_copyOf_47 : decode cX1_copyOf 47 = .ok (.aload 5, 2) := dk_25 5 (dk_at dksX1_copyOf_2 0 rfl rfl)
theorem dX1_copyOf_49 : decode cX1_copyOf 49 = .ok (.invokeinterface 108 1, 5) := by decide +kernel
theorem dX1_copyOf_54 : decode cX1_copyOf 54 = .ok (.ifCond .eq 26, 3) := dk_153 0 26 (dk_at dksX1_copyOf_2 7 rfl rfl)
theorem dX1_copyOf_57 : decode cX1_copyOf 57 = .ok (.aload 5, 2) := dk_25 5 (dk_at dksX1_copyOf_2 10 rfl rfl)
theorem dX1_copyOf_59 : decode cX1_copyOf 59 = .ok (.invokeinterface 114 1, 5) := by decide +kernel
theorem dX1_copyOf_64 : decode cX1_copyOf 64 = .ok (.checkcast 95, 3) := dk_192 0 95 (dk_at dksX1_copyOf_2 17 rfl rfl)
theorem dX1_copyOf_67 : decode cX1_copyOf 67 = .ok (.astore 6, 2) := dk_58 6 (dk_at dksX1_copyOf_2 20 rfl rfl)
theorem dX1_copyOf_69 : decode cX1_copyOf 69 = .ok (.aload 4, 2) := dk_25 4 (dk_at dksX1_copyOf_2 22 rfl rfl)
theorem dX1_copyOf_71 : decode cX1_copyOf 71 = .ok (.aload 6, 2) := dk_25 6 (dk_at dksX1_copyOf_3 0 rfl rfl)
theorem dX1_copyOf_73 : decode cX1_copyOf 73 = .ok (.invokevirtual 100, 3) := dk_182 0 100 (dk_at dksX1_copyOf_3 2 rfl rfl)
theorem dX1_copyOf_76 : decode cX1_copyOf 76 = .ok (.pop, 1) := dk_87 (dk_at dksX1_copyOf_3 5 rfl rfl)
theorem dX1_copyOf_77 : decode cX1_copyOf 77 = .ok (.goto (-30), 3) := dk_167 255 226 (dk_at dksX1_copyOf_3 6 rfl rfl)
theorem dX1_copyOf_80 : decode cX1_copyOf 80 = .ok (.aload_n 1, 1) := dk_43 (dk_at dksX1_copyOf_3 9 rfl rfl)
theorem dX1_copyOf_81 : decode cX1_copyOf 81 = .ok (.aload 4, 2) := dk_25 4 (dk_at dksX1_copyOf_3 10 rfl rfl)
theorem dX1_copyOf_83 : decode cX1_copyOf 83 = .ok (.invokevirtual 100, 3) := dk_182 0 100 (dk_at dksX1_copyOf_3 12 rfl rfl)
theorem dX1_copyOf_86 : decode cX1_copyOf 86 = .ok (.pop, 1) := dk_87 (dk_at dksX1_copyOf_3 15 rfl rfl)
theorem dX1_copyOf_87 : decode cX1_copyOf 87 = .ok (.goto (-74), 3) := dk_167 255 182 (dk_at dksX1_copyOf_3 16 rfl rfl)
theorem dX1_copyOf_90 : decode cX1_copyOf 90 = .ok (.aload_n 1, 1) := dk_43 (dk_at dksX1_copyOf_3 19 rfl rfl)
theorem dX1_copyOf_91 : decode cX1_copyOf 91 = .ok (.areturn, 1) := dk_176 (dk_at dksX1_copyOf_3 20 rfl rfl)
abbrev cX1_totalCost : ByteArray := prog_1_method_35_code
def yX1_totalCost : MethodName := ⟨RX1, "totalCost", "()I"⟩
def dkwX1_totalCost_1 : List UInt8 := [167, 255, 237, 27, 172]
abbrev dktX1_totalCost_1 : List UInt8 := dkwX1_totalCost_1 ++ []
def dkwX1_totalCost_0 : List UInt8 := [3, 60, 3, 61, 28, 42, 180, 0, 7, 162, 0, 17, 27, 42, 28, 182, 0, 212, 96, 60, 132, 2, 1]
abbrev dktX1_totalCost_0 : List UInt8 := dkwX1_totalCost_0 ++ dktX1_totalCost_1
theorem dksX1_totalCost_0 : cX1_totalCost.data.toList.drop 0 = dktX1_totalCost_0 := by decide +kernel
theorem dksX1_totalCost_1 : cX1_totalCost.data.toList.drop 23 = dktX1_totalCost_1 := dk_seg dksX1_totalCost_0 23 rfl rfl
theorem dX1_totalCost_0 : decode cX1_totalCost 0 = .ok (.iconst 0, 1) := dk_3 (dk_at dksX1_totalCost_0 0 rfl rfl)
theorem dX1_totalCost_1 : decode cX1_totalCost 1 = .ok (.istore_n 1, 1) := dk_60 (dk_at dksX1_totalCost_0 1 rfl rfl)
theorem dX1_totalCost_2 : decode cX1_totalCost 2 = .ok (.iconst 0, 1) := dk_3 (dk_at dksX1_totalCost_0 2 rfl rfl)
theorem dX1_totalCost_3 : decode cX1_totalCost 3 = .ok (.istore_n 2, 1) := dk_61 (dk_at dksX1_totalCost_0 3 rfl rfl)
theorem dX1_totalCost_4 : decode cX1_totalCost 4 = .ok (.iload_n 2, 1) := dk_28 (dk_at dksX1_totalCost_0 4 rfl rfl)
theorem dX1_totalCost_5 : decode cX1_totalCost 5 = .ok (.aload_n 0, 1) := dk_42 (dk_at dksX1_totalCost_0 5 rfl rfl)
theorem dX1_totalCost_6 : decode cX1_totalCost 6 = .ok (.getfield 7, 3) := dk_180 0 7 (dk_at dksX1_totalCost_0 6 rfl rfl)
theorem dX1_totalCost_9 : decode cX1_totalCost 9 = .ok (.if_icmp .ge 17, 3) := dk_162 0 17 (dk_at dksX1_totalCost_0 9 rfl rfl)
theorem dX1_totalCost_12 : decode cX1_totalCost 12 = .ok (.iload_n 1, 1) := dk_27 (dk_at dksX1_totalCost_0 12 rfl rfl)
theorem dX1_totalCost_13 : decode cX1_totalCost 13 = .ok (.aload_n 0, 1) := dk_42 (dk_at dksX1_totalCost_0 13 rfl rfl)
theorem dX1_totalCost_14 : decode cX1_totalCost 14 = .ok (.iload_n 2, 1) := dk_28 (dk_at dksX1_totalCost_0 14 rfl rfl)
theorem dX1_totalCost_15 : decode cX1_totalCost 15 = .ok (.invokevirtual 212, 3) := dk_182 0 212 (dk_at dksX1_totalCost_0 15 rfl rfl)
theorem dX1_totalCost_18 : decode cX1_totalCost 18 = .ok (.iadd, 1) := dk_96 (dk_at dksX1_totalCost_0 18 rfl rfl)
theorem dX1_totalCost_19 : decode cX1_totalCost 19 = .ok (.istore_n 1, 1) := dk_60 (dk_at dksX1_totalCost_0 19 rfl rfl)
theorem dX1_totalCost_20 : decode cX1_totalCost 20 = .ok (.iinc 2 1, 3) := dk_132 2 1 (dk_at dksX1_totalCost_0 20 rfl rfl)
theorem dX1_totalCost_23 : decode cX1_totalCost 23 = .ok (.goto (-19), 3) := dk_167 255 237 (dk_at dksX1_totalCost_1 0 rfl rfl)
theorem dX1_totalCost_26 : decode cX1_totalCost 26 = .ok (.iload_n 1, 1) := dk_27 (dk_at dksX1_totalCost_1 3 rfl rfl)
theorem dX1_totalCost_27 : decode cX1_totalCost 27 = .ok (.ireturn, 1) := dk_172 (dk_at dksX1_totalCost_1 4 rfl rfl)
abbrev cX1_rowSum : ByteArray := prog_1_method_22_code
def yX1_rowSum : MethodName := ⟨RX1, "rowSum", "(I)I"⟩
def dkwX1_rowSum_2 : List UInt8 := [61, 167, 255, 225, 28, 172]
abbrev dktX1_rowSum_2 : List UInt8 := dkwX1_rowSum_2 ++ []
def dkwX1_rowSum_1 : List UInt8 := [153, 0, 28, 45, 185, 0, 114, 1, 0, 192, 0, 95, 58, 4, 28, 25, 4, 182, 0, 135, 184, 0, 139, 96]
abbrev dktX1_rowSum_1 : List UInt8 := dkwX1_rowSum_1 ++ dktX1_rowSum_2
def dkwX1_rowSum_0 : List UInt8 := [3, 61, 42, 180, 0, 20, 27, 182, 0, 131, 192, 0, 91, 182, 0, 104, 78, 45, 185, 0, 108, 1, 0]
abbrev dktX1_rowSum_0 : List UInt8 := dkwX1_rowSum_0 ++ dktX1_rowSum_1
theorem dksX1_rowSum_0 : cX1_rowSum.data.toList.drop 0 = dktX1_rowSum_0 := by decide +kernel
theorem dksX1_rowSum_1 : cX1_rowSum.data.toList.drop 23 = dktX1_rowSum_1 := dk_seg dksX1_rowSum_0 23 rfl rfl
theorem dksX1_rowSum_2 : cX1_rowSum.data.toList.drop 47 = dktX1_rowSum_2 := dk_seg dksX1_rowSum_1 24 rfl rfl
theorem dX1_rowSum_0 : decode cX1_rowSum 0 = .ok (.iconst 0, 1) := dk_3 (dk_at dksX1_rowSum_0 0 rfl rfl)
theorem dX1_rowSum_1 : decode cX1_rowSum 1 = .ok (.istore_n 2, 1) := dk_61 (dk_at dksX1_rowSum_0 1 rfl rfl)
theorem dX1_rowSum_2 : decode cX1_rowSum 2 = .ok (.aload_n 0, 1) := dk_42 (dk_at dksX1_rowSum_0 2 rfl rfl)
theorem dX1_rowSum_3 : decode cX1_rowSum 3 = .ok (.getfield 20, 3) := dk_180 0 20 (dk_at dksX1_rowSum_0 3 rfl rfl)
theorem dX1_rowSum_6 : decode cX1_rowSum 6 = .ok (.iload_n 1, 1) := dk_27 (dk_at dksX1_rowSum_0 6 rfl rfl)
theorem dX1_rowSum_7 : decode cX1_rowSum 7 = .ok (.invokevirtual 131, 3) := dk_182 0 131 (dk_at dksX1_rowSum_0 7 rfl rfl)
theorem dX1_rowSum_10 : decode cX1_rowSum 10 = .ok (.checkcast 91, 3) := dk_192 0 91 (dk_at dksX1_rowSum_0 10 rfl rfl)
theorem dX1_rowSum_13 : decode cX1_rowSum 13 = .ok (.invokevirtual 104, 3) := dk_182 0 104 (dk_at dksX1_rowSum_0 13 rfl rfl)
theorem dX1_rowSum_16 : decode cX1_rowSum 16 = .ok (.astore_n 3, 1) := dk_78 (dk_at dksX1_rowSum_0 16 rfl rfl)
theorem dX1_rowSum_17 : decode cX1_rowSum 17 = .ok (.aload_n 3, 1) := dk_45 (dk_at dksX1_rowSum_0 17 rfl rfl)
theorem dX1_rowSum_18 : decode cX1_rowSum 18 = .ok (.invokeinterface 108 1, 5) := by decide +kernel
theorem dX1_rowSum_23 : decode cX1_rowSum 23 = .ok (.ifCond .eq 28, 3) := dk_153 0 28 (dk_at dksX1_rowSum_1 0 rfl rfl)
theorem dX1_rowSum_26 : decode cX1_rowSum 26 = .ok (.aload_n 3, 1) := dk_45 (dk_at dksX1_rowSum_1 3 rfl rfl)
theorem dX1_rowSum_27 : decode cX1_rowSum 27 = .ok (.invokeinterface 114 1, 5) := by decide +kernel
theorem dX1_rowSum_32 : decode cX1_rowSum 32 = .ok (.checkcast 95, 3) := dk_192 0 95 (dk_at dksX1_rowSum_1 9 rfl rfl)
theorem dX1_rowSum_35 : decode cX1_rowSum 35 = .ok (.astore 4, 2) := dk_58 4 (dk_at dksX1_rowSum_1 12 rfl rfl)
theorem dX1_rowSum_37 : decode cX1_rowSum 37 = .ok (.iload_n 2, 1) := dk_28 (dk_at dksX1_rowSum_1 14 rfl rfl)
theorem dX1_rowSum_38 : decode cX1_rowSum 38 = .ok (.aload 4, 2) := dk_25 4 (dk_at dksX1_rowSum_1 15 rfl rfl)
theorem dX1_rowSum_40 : decode cX1_rowSum 40 = .ok (.invokevirtual 135, 3) := dk_182 0 135 (dk_at dksX1_rowSum_1 17 rfl rfl)
theorem dX1_rowSum_43 : decode cX1_rowSum 43 = .ok (.invokestatic 139, 3) := dk_184 0 139 (dk_at dksX1_rowSum_1 20 rfl rfl)
theorem dX1_rowSum_46 : decode cX1_rowSum 46 = .ok (.iadd, 1) := dk_96 (dk_at dksX1_rowSum_1 23 rfl rfl)
theorem dX1_rowSum_47 : decode cX1_rowSum 47 = .ok (.istore_n 2, 1) := dk_61 (dk_at dksX1_rowSum_2 0 rfl rfl)
theorem dX1_rowSum_48 : decode cX1_rowSum 48 = .ok (.goto (-31), 3) := dk_167 255 225 (dk_at dksX1_rowSum_2 1 rfl rfl)
theorem dX1_rowSum_51 : decode cX1_rowSum 51 = .ok (.iload_n 2, 1) := dk_28 (dk_at dksX1_rowSum_2 4 rfl rfl)
theorem dX1_rowSum_52 : decode cX1_rowSum 52 = .ok (.ireturn, 1) := dk_172 (dk_at dksX1_rowSum_2 5 rfl rfl)
abbrev cX1_costOf : ByteArray := prog_1_method_4_code
def yX1_costOf : MethodName := ⟨RX1, "costOf", "(I)I"⟩
def dkwX1_costOf_0 : List UInt8 := [26, 156, 0, 9, 17, 3, 232, 167, 0, 4, 26, 172]
abbrev dktX1_costOf_0 : List UInt8 := dkwX1_costOf_0 ++ []
theorem dksX1_costOf_0 : cX1_costOf.data.toList.drop 0 = dktX1_costOf_0 := by decide +kernel
theorem dX1_costOf_0 : decode cX1_costOf 0 = .ok (.iload_n 0, 1) := dk_26 (dk_at dksX1_costOf_0 0 rfl rfl)
theorem dX1_costOf_1 : decode cX1_costOf 1 = .ok (.ifCond .ge 9, 3) := dk_156 0 9 (dk_at dksX1_costOf_0 1 rfl rfl)
theorem dX1_costOf_4 : decode cX1_costOf 4 = .ok (.sipush 1000, 3) := dk_17 3 232 (dk_at dksX1_costOf_0 4 rfl rfl)
theorem dX1_costOf_7 : decode cX1_costOf 7 = .ok (.goto 4, 3) := dk_167 0 4 (dk_at dksX1_costOf_0 7 rfl rfl)
theorem dX1_costOf_10 : decode cX1_costOf 10 = .ok (.iload_n 0, 1) := dk_26 (dk_at dksX1_costOf_0 10 rfl rfl)
theorem dX1_costOf_11 : decode cX1_costOf 11 = .ok (.ireturn, 1) := dk_172 (dk_at dksX1_costOf_0 11 rfl rfl)
abbrev cX1_restore : ByteArray := prog_1_method_30_code
def yX1_restore : MethodName := ⟨RX1, "restore", "()I"⟩
def dkwX1_restore_1 : List UInt8 := [181, 0, 20, 42, 182, 0, 166, 42, 180, 0, 7, 172]
abbrev dktX1_restore_1 : List UInt8 := dkwX1_restore_1 ++ []
def dkwX1_restore_0 : List UInt8 := [42, 42, 180, 0, 24, 181, 0, 7, 42, 42, 180, 0, 27, 181, 0, 13, 42, 42, 180, 0, 30, 184, 0, 227]
abbrev dktX1_restore_0 : List UInt8 := dkwX1_restore_0 ++ dktX1_restore_1
theorem dksX1_restore_0 : cX1_restore.data.toList.drop 0 = dktX1_restore_0 := by decide +kernel
theorem dksX1_restore_1 : cX1_restore.data.toList.drop 24 = dktX1_restore_1 := dk_seg dksX1_restore_0 24 rfl rfl
theorem dX1_restore_0 : decode cX1_restore 0 = .ok (.aload_n 0, 1) := dk_42 (dk_at dksX1_restore_0 0 rfl rfl)
theorem dX1_restore_1 : decode cX1_restore 1 = .ok (.aload_n 0, 1) := dk_42 (dk_at dksX1_restore_0 1 rfl rfl)
theorem dX1_restore_2 : decode cX1_restore 2 = .ok (.getfield 24, 3) := dk_180 0 24 (dk_at dksX1_restore_0 2 rfl rfl)
theorem dX1_restore_5 : decode cX1_restore 5 = .ok (.putfield 7, 3) := dk_181 0 7 (dk_at dksX1_restore_0 5 rfl rfl)
theorem dX1_restore_8 : decode cX1_restore 8 = .ok (.aload_n 0, 1) := dk_42 (dk_at dksX1_restore_0 8 rfl rfl)
theorem dX1_restore_9 : decode cX1_restore 9 = .ok (.aload_n 0, 1) := dk_42 (dk_at dksX1_restore_0 9 rfl rfl)
theorem dX1_restore_10 : decode cX1_restore 10 = .ok (.getfield 27, 3) := dk_180 0 27 (dk_at dksX1_restore_0 10 rfl rfl)
theorem dX1_restore_13 : decode cX1_restore 13 = .ok (.putfield 13, 3) := dk_181 0 13 (dk_at dksX1_restore_0 13 rfl rfl)
theorem dX1_restore_16 : decode cX1_restore 16 = .ok (.aload_n 0, 1) := dk_42 (dk_at dksX1_restore_0 16 rfl rfl)
theorem dX1_restore_17 : decode cX1_restore 17 = .ok (.aload_n 0, 1) := dk_42 (dk_at dksX1_restore_0 17 rfl rfl)
theorem dX1_restore_18 : decode cX1_restore 18 = .ok (.getfield 30, 3) := dk_180 0 30 (dk_at dksX1_restore_0 18 rfl rfl)
theorem dX1_restore_21 : decode cX1_restore 21 = .ok (.invokestatic 227, 3) := dk_184 0 227 (dk_at dksX1_restore_0 21 rfl rfl)
theorem dX1_restore_24 : decode cX1_restore 24 = .ok (.putfield 20, 3) := dk_181 0 20 (dk_at dksX1_restore_1 0 rfl rfl)
theorem dX1_restore_27 : decode cX1_restore 27 = .ok (.aload_n 0, 1) := dk_42 (dk_at dksX1_restore_1 3 rfl rfl)
theorem dX1_restore_28 : decode cX1_restore 28 = .ok (.invokevirtual 166, 3) := dk_182 0 166 (dk_at dksX1_restore_1 4 rfl rfl)
theorem dX1_restore_31 : decode cX1_restore 31 = .ok (.aload_n 0, 1) := dk_42 (dk_at dksX1_restore_1 7 rfl rfl)
theorem dX1_restore_32 : decode cX1_restore 32 = .ok (.getfield 7, 3) := dk_180 0 7 (dk_at dksX1_restore_1 8 rfl rfl)
theorem dX1_restore_35 : decode cX1_restore 35 = .ok (.ireturn, 1) := dk_172 (dk_at dksX1_restore_1 11 rfl rfl)
abbrev cX1_cancel : ByteArray := prog_1_method_15_code
def yX1_cancel : MethodName := ⟨RX1, "cancel", "()V"⟩
def dkwX1_cancel_0 : List UInt8 := [42, 3, 181, 0, 147, 42, 3, 181, 0, 151, 42, 3, 181, 0, 154, 42, 180, 0, 85, 182, 0, 157, 177]
abbrev dktX1_cancel_0 : List UInt8 := dkwX1_cancel_0 ++ []
theorem dksX1_cancel_0 : cX1_cancel.data.toList.drop 0 = dktX1_cancel_0 := by decide +kernel
theorem dX1_cancel_0 : decode cX1_cancel 0 = .ok (.aload_n 0, 1) := dk_42 (dk_at dksX1_cancel_0 0 rfl rfl)
theorem dX1_cancel_1 : decode cX1_cancel 1 = .ok (.iconst 0, 1) := dk_3 (dk_at dksX1_cancel_0 1 rfl rfl)
theorem dX1_cancel_2 : decode cX1_cancel 2 = .ok (.putfield 147, 3) := dk_181 0 147 (dk_at dksX1_cancel_0 2 rfl rfl)
theorem dX1_cancel_5 : decode cX1_cancel 5 = .ok (.aload_n 0, 1) := dk_42 (dk_at dksX1_cancel_0 5 rfl rfl)
theorem dX1_cancel_6 : decode cX1_cancel 6 = .ok (.iconst 0, 1) := dk_3 (dk_at dksX1_cancel_0 6 rfl rfl)
theorem dX1_cancel_7 : decode cX1_cancel 7 = .ok (.putfield 151, 3) := dk_181 0 151 (dk_at dksX1_cancel_0 7 rfl rfl)
theorem dX1_cancel_10 : decode cX1_cancel 10 = .ok (.aload_n 0, 1) := dk_42 (dk_at dksX1_cancel_0 10 rfl rfl)
theorem dX1_cancel_11 : decode cX1_cancel 11 = .ok (.iconst 0, 1) := dk_3 (dk_at dksX1_cancel_0 11 rfl rfl)
theorem dX1_cancel_12 : decode cX1_cancel 12 = .ok (.putfield 154, 3) := dk_181 0 154 (dk_at dksX1_cancel_0 12 rfl rfl)
theorem dX1_cancel_15 : decode cX1_cancel 15 = .ok (.aload_n 0, 1) := dk_42 (dk_at dksX1_cancel_0 15 rfl rfl)
theorem dX1_cancel_16 : decode cX1_cancel 16 = .ok (.getfield 85, 3) := dk_180 0 85 (dk_at dksX1_cancel_0 16 rfl rfl)
theorem dX1_cancel_19 : decode cX1_cancel 19 = .ok (.invokevirtual 157, 3) := dk_182 0 157 (dk_at dksX1_cancel_0 19 rfl rfl)
theorem dX1_cancel_22 : decode cX1_cancel 22 = .ok (.return_, 1) := dk_177 (dk_at dksX1_cancel_0 22 rfl rfl)
abbrev cX1_distance : ByteArray := prog_1_method_31_code
def yX1_distance : MethodName := ⟨RX1, "distance", "()I"⟩
def dkwX1_distance_3 : List UInt8 := [60, 132, 3, 1, 167, 255, 218, 132, 2, 1, 167, 255, 202, 27, 172]
abbrev dktX1_distance_3 : List UInt8 := dkwX1_distance_3 ++ []
def dkwX1_distance_2 : List UInt8 := [28, 29, 182, 0, 204, 42, 42, 180, 0, 30, 42, 180, 0, 27, 28, 29, 182, 0, 143, 100, 184, 0, 234, 96]
abbrev dktX1_distance_2 : List UInt8 := dkwX1_distance_2 ++ dktX1_distance_3
def dkwX1_distance_1 : List UInt8 := [3, 60, 3, 61, 28, 42, 180, 0, 7, 162, 0, 52, 3, 62, 29, 42, 180, 0, 13, 162, 0, 36, 27, 42]
abbrev dktX1_distance_1 : List UInt8 := dkwX1_distance_1 ++ dktX1_distance_2
def dkwX1_distance_0 : List UInt8 := [42, 180, 0, 7, 42, 180, 0, 24, 160, 0, 14, 42, 180, 0, 13, 42, 180, 0, 27, 159, 0, 5, 2, 172]
abbrev dktX1_distance_0 : List UInt8 := dkwX1_distance_0 ++ dktX1_distance_1
theorem dksX1_distance_0 : cX1_distance.data.toList.drop 0 = dktX1_distance_0 := by decide +kernel
theorem dksX1_distance_1 : cX1_distance.data.toList.drop 24 = dktX1_distance_1 := dk_seg dksX1_distance_0 24 rfl rfl
theorem dksX1_distance_2 : cX1_distance.data.toList.drop 48 = dktX1_distance_2 := dk_seg dksX1_distance_1 24 rfl rfl
theorem dksX1_distance_3 : cX1_distance.data.toList.drop 72 = dktX1_distance_3 := dk_seg dksX1_distance_2 24 rfl rfl
theorem dX1_distance_0 : decode cX1_distance 0 = .ok (.aload_n 0, 1) := dk_42 (dk_at dksX1_distance_0 0 rfl rfl)
theorem dX1_distance_1 : decode cX1_distance 1 = .ok (.getfield 7, 3) := dk_180 0 7 (dk_at dksX1_distance_0 1 rfl rfl)
theorem dX1_distance_4 : decode cX1_distance 4 = .ok (.aload_n 0, 1) := dk_42 (dk_at dksX1_distance_0 4 rfl rfl)
theorem dX1_distance_5 : decode cX1_distance 5 = .ok (.getfield 24, 3) := dk_180 0 24 (dk_at dksX1_distance_0 5 rfl rfl)
theorem dX1_distance_8 : decode cX1_distance 8 = .ok (.if_icmp .ne 14, 3) := dk_160 0 14 (dk_at dksX1_distance_0 8 rfl rfl)
theorem dX1_distance_11 : decode cX1_distance 11 = .ok (.aload_n 0, 1) := dk_42 (dk_at dksX1_distance_0 11 rfl rfl)
theorem dX1_distance_12 : decode cX1_distance 12 = .ok (.getfield 13, 3) := dk_180 0 13 (dk_at dksX1_distance_0 12 rfl rfl)
theorem dX1_distance_15 : decode cX1_distance 15 = .ok (.aload_n 0, 1) := dk_42 (dk_at dksX1_distance_0 15 rfl rfl)
theorem dX1_distance_16 : decode cX1_distance 16 = .ok (.getfield 27, 3) := dk_180 0 27 (dk_at dksX1_distance_0 16 rfl rfl)
theorem dX1_distance_19 : decode cX1_distance 19 = .ok (.if_icmp .eq 5, 3) := dk_159 0 5 (dk_at dksX1_distance_0 19 rfl rfl)
theorem dX1_distance_22 : decode cX1_distance 22 = .ok (.iconst (-1), 1) := dk_2 (dk_at dksX1_distance_0 22 rfl rfl)
theorem dX1_distance_23 : decode cX1_distance 23 = .ok (.ireturn, 1) := dk_172 (dk_at dksX1_distance_0 23 rfl rfl)
theorem dX1_distance_24 : decode cX1_distance 24 = .ok (.iconst 0, 1) := dk_3 (dk_at dksX1_distance_1 0 rfl rfl)
theorem dX1_distance_25 : decode cX1_distance 25 = .ok (.istore_n 1, 1) := dk_60 (dk_at dksX1_distance_1 1 rfl rfl)
theorem dX1_distance_26 : decode cX1_distance 26 = .ok (.iconst 0, 1) := dk_3 (dk_at dksX1_distance_1 2 rfl rfl)
theorem dX1_distance_27 : decode cX1_distance 27 = .ok (.istore_n 2, 1) := dk_61 (dk_at dksX1_distance_1 3 rfl rfl)
theorem dX1_distance_28 : decode cX1_distance 28 = .ok (.iload_n 2, 1) := dk_28 (dk_at dksX1_distance_1 4 rfl rfl)
theorem dX1_distance_29 : decode cX1_distance 29 = .ok (.aload_n 0, 1) := dk_42 (dk_at dksX1_distance_1 5 rfl rfl)
theorem dX1_distance_30 : decode cX1_distance 30 = .ok (.getfield 7, 3) := dk_180 0 7 (dk_at dksX1_distance_1 6 rfl rfl)
theorem dX1_distance_33 : decode cX1_distance 33 = .ok (.if_icmp .ge 52, 3) := dk_162 0 52 (dk_at dksX1_distance_1 9 rfl rfl)
theorem dX1_distance_36 : decode cX1_distance 36 = .ok (.iconst 0, 1) := dk_3 (dk_at dksX1_distance_1 12 rfl rfl)
theorem dX1_distance_37 : decode cX1_distance 37 = .ok (.istore_n 3, 1) := dk_62 (dk_at dksX1_distance_1 13 rfl rfl)
theorem dX1_distance_38 : decode cX1_distance 38 = .ok (.iload_n 3, 1) := dk_29 (dk_at dksX1_distance_1 14 rfl rfl)
theorem dX1_distance_39 : decode cX1_distance 39 = .ok (.aload_n 0, 1) := dk_42 (dk_at dksX1_distance_1 15 rfl rfl)
theorem dX1_distance_40 : decode cX1_distance 40 = .ok (.getfield 13, 3) := dk_180 0 13 (dk_at dksX1_distance_1 16 rfl rfl)
theorem dX1_distance_43 : decode cX1_distance 43 = .ok (.if_icmp .ge 36, 3) := dk_162 0 36 (dk_at dksX1_distance_1 19 rfl rfl)
theorem dX1_distance_46 : decode cX1_distance 46 = .ok (.iload_n 1, 1) := dk_27 (dk_at dksX1_distance_1 22 rfl rfl)
theorem dX1_distance_47 : decode cX1_distance 47 = .ok (.aload_n 0, 1) := dk_42 (dk_at dksX1_distance_1 23 rfl rfl)
theorem dX1_distance_48 : decode cX1_distance 48 = .ok (.iload_n 2, 1) := dk_28 (dk_at dksX1_distance_2 0 rfl rfl)
theorem dX1_distance_49 : decode cX1_distance 49 = .ok (.iload_n 3, 1) := dk_29 (dk_at dksX1_distance_2 1 rfl rfl)
theorem dX1_distance_50 : decode cX1_distance 50 = .ok (.invokevirtual 204, 3) := dk_182 0 204 (dk_at dksX1_distance_2 2 rfl rfl)
theorem dX1_distance_53 : decode cX1_distance 53 = .ok (.aload_n 0, 1) := dk_42 (dk_at dksX1_distance_2 5 rfl rfl)
theorem dX1_distance_54 : decode cX1_distance 54 = .ok (.aload_n 0, 1) := dk_42 (dk_at dksX1_distance_2 6 rfl rfl)
theorem dX1_distance_55 : decode cX1_distance 55 = .ok (.getfield 30, 3) := dk_180 0 30 (dk_at dksX1_distance_2 7 rfl rfl)
theorem dX1_distance_58 : decode cX1_distance 58 = .ok (.aload_n 0, 1) := dk_42 (dk_at dksX1_distance_2 10 rfl rfl)
theorem dX1_distance_59 : decode cX1_distance 59 = .ok (.getfield 27, 3) := dk_180 0 27 (dk_at dksX1_distance_2 11 rfl rfl)
theorem dX1_distance_62 : decode cX1_distance 62 = .ok (.iload_n 2, 1) := dk_28 (dk_at dksX1_distance_2 14 rfl rfl)
theorem dX1_distance_63 : decode cX1_distance 63 = .ok (.iload_n 3, 1) := dk_29 (dk_at dksX1_distance_2 15 rfl rfl)
theorem dX1_distance_64 : decode cX1_distance 64 = .ok (.invokevirtual 143, 3) := dk_182 0 143 (dk_at dksX1_distance_2 16 rfl rfl)
theorem dX1_distance_67 : decode cX1_distance 67 = .ok (.isub, 1) := dk_100 (dk_at dksX1_distance_2 19 rfl rfl)
theorem dX1_distance_68 : decode cX1_distance 68 = .ok (.invokestatic 234, 3) := dk_184 0 234 (dk_at dksX1_distance_2 20 rfl rfl)
theorem dX1_distance_71 : decode cX1_distance 71 = .ok (.iadd, 1) := dk_96 (dk_at dksX1_distance_2 23 rfl rfl)
theorem dX1_distance_72 : decode cX1_distance 72 = .ok (.istore_n 1, 1) := dk_60 (dk_at dksX1_distance_3 0 rfl rfl)
theorem dX1_distance_73 : decode cX1_distance 73 = .ok (.iinc 3 1, 3) := dk_132 3 1 (dk_at dksX1_distance_3 1 rfl rfl)
theorem dX1_distance_76 : decode cX1_distance 76 = .ok (.goto (-38), 3) := dk_167 255 218 (dk_at dksX1_distance_3 4 rfl rfl)
theorem dX1_distance_79 : decode cX1_distance 79 = .ok (.iinc 2 1, 3) := dk_132 2 1 (dk_at dksX1_distance_3 7 rfl rfl)
theorem dX1_distance_82 : decode cX1_distance 82 = .ok (.goto (-54), 3) := dk_167 255 202 (dk_at dksX1_distance_3 10 rfl rfl)
theorem dX1_distance_85 : decode cX1_distance 85 = .ok (.iload_n 1, 1) := dk_27 (dk_at dksX1_distance_3 13 rfl rfl)
theorem dX1_distance_86 : decode cX1_distance 86 = .ok (.ireturn, 1) := dk_172 (dk_at dksX1_distance_3 14 rfl rfl)
abbrev cX1_costHere : ByteArray := prog_1_method_14_code
def yX1_costHere : MethodName := ⟨RX1, "costHere", "(II)I"⟩
def dkwX1_costHere_0 : List UInt8 := [42, 42, 180, 0, 20, 42, 180, 0, 13, 27, 28, 182, 0, 143, 172]
abbrev dktX1_costHere_0 : List UInt8 := dkwX1_costHere_0 ++ []
theorem dksX1_costHere_0 : cX1_costHere.data.toList.drop 0 = dktX1_costHere_0 := by decide +kernel
theorem dX1_costHere_0 : decode cX1_costHere 0 = .ok (.aload_n 0, 1) := dk_42 (dk_at dksX1_costHere_0 0 rfl rfl)
theorem dX1_costHere_1 : decode cX1_costHere 1 = .ok (.aload_n 0, 1) := dk_42 (dk_at dksX1_costHere_0 1 rfl rfl)
theorem dX1_costHere_2 : decode cX1_costHere 2 = .ok (.getfield 20, 3) := dk_180 0 20 (dk_at dksX1_costHere_0 2 rfl rfl)
theorem dX1_costHere_5 : decode cX1_costHere 5 = .ok (.aload_n 0, 1) := dk_42 (dk_at dksX1_costHere_0 5 rfl rfl)
theorem dX1_costHere_6 : decode cX1_costHere 6 = .ok (.getfield 13, 3) := dk_180 0 13 (dk_at dksX1_costHere_0 6 rfl rfl)
theorem dX1_costHere_9 : decode cX1_costHere 9 = .ok (.iload_n 1, 1) := dk_27 (dk_at dksX1_costHere_0 9 rfl rfl)
theorem dX1_costHere_10 : decode cX1_costHere 10 = .ok (.iload_n 2, 1) := dk_28 (dk_at dksX1_costHere_0 10 rfl rfl)
theorem dX1_costHere_11 : decode cX1_costHere 11 = .ok (.invokevirtual 143, 3) := dk_182 0 143 (dk_at dksX1_costHere_0 11 rfl rfl)
theorem dX1_costHere_14 : decode cX1_costHere 14 = .ok (.ireturn, 1) := dk_172 (dk_at dksX1_costHere_0 14 rfl rfl)
abbrev cX1_costIn : ByteArray := prog_1_method_13_code
def yX1_costIn : MethodName := ⟨RX1, "costIn", "(Ljava/util/ArrayList;III)I"⟩
def dkwX1_costIn_1 : List UInt8 := [182, 0, 135, 184, 0, 139, 167, 0, 4, 3, 172]
abbrev dktX1_costIn_1 : List UInt8 := dkwX1_costIn_1 ++ []
def dkwX1_costIn_0 : List UInt8 := [21, 4, 28, 162, 0, 28, 43, 29, 182, 0, 131, 192, 0, 91, 21, 4, 182, 0, 131, 192, 0, 95]
abbrev dktX1_costIn_0 : List UInt8 := dkwX1_costIn_0 ++ dktX1_costIn_1
theorem dksX1_costIn_0 : cX1_costIn.data.toList.drop 0 = dktX1_costIn_0 := by decide +kernel
theorem dksX1_costIn_1 : cX1_costIn.data.toList.drop 22 = dktX1_costIn_1 := dk_seg dksX1_costIn_0 22 rfl rfl
theorem dX1_costIn_0 : decode cX1_costIn 0 = .ok (.iload 4, 2) := dk_21 4 (dk_at dksX1_costIn_0 0 rfl rfl)
theorem dX1_costIn_2 : decode cX1_costIn 2 = .ok (.iload_n 2, 1) := dk_28 (dk_at dksX1_costIn_0 2 rfl rfl)
theorem dX1_costIn_3 : decode cX1_costIn 3 = .ok (.if_icmp .ge 28, 3) := dk_162 0 28 (dk_at dksX1_costIn_0 3 rfl rfl)
theorem dX1_costIn_6 : decode cX1_costIn 6 = .ok (.aload_n 1, 1) := dk_43 (dk_at dksX1_costIn_0 6 rfl rfl)
theorem dX1_costIn_7 : decode cX1_costIn 7 = .ok (.iload_n 3, 1) := dk_29 (dk_at dksX1_costIn_0 7 rfl rfl)
theorem dX1_costIn_8 : decode cX1_costIn 8 = .ok (.invokevirtual 131, 3) := dk_182 0 131 (dk_at dksX1_costIn_0 8 rfl rfl)
theorem dX1_costIn_11 : decode cX1_costIn 11 = .ok (.checkcast 91, 3) := dk_192 0 91 (dk_at dksX1_costIn_0 11 rfl rfl)
theorem dX1_costIn_14 : decode cX1_costIn 14 = .ok (.iload 4, 2) := dk_21 4 (dk_at dksX1_costIn_0 14 rfl rfl)
theorem dX1_costIn_16 : decode cX1_costIn 16 = .ok (.invokevirtual 131, 3) := dk_182 0 131 (dk_at dksX1_costIn_0 16 rfl rfl)
theorem dX1_costIn_19 : decode cX1_costIn 19 = .ok (.checkcast 95, 3) := dk_192 0 95 (dk_at dksX1_costIn_0 19 rfl rfl)
theorem dX1_costIn_22 : decode cX1_costIn 22 = .ok (.invokevirtual 135, 3) := dk_182 0 135 (dk_at dksX1_costIn_1 0 rfl rfl)
theorem dX1_costIn_25 : decode cX1_costIn 25 = .ok (.invokestatic 139, 3) := dk_184 0 139 (dk_at dksX1_costIn_1 3 rfl rfl)
theorem dX1_costIn_28 : decode cX1_costIn 28 = .ok (.goto 4, 3) := dk_167 0 4 (dk_at dksX1_costIn_1 6 rfl rfl)
theorem dX1_costIn_31 : decode cX1_costIn 31 = .ok (.iconst 0, 1) := dk_3 (dk_at dksX1_costIn_1 9 rfl rfl)
theorem dX1_costIn_32 : decode cX1_costIn 32 = .ok (.ireturn, 1) := dk_172 (dk_at dksX1_costIn_1 10 rfl rfl)
abbrev cX1_rows : ByteArray := prog_1_method_32_code
def yX1_rows : MethodName := ⟨RX1, "rows", "()I"⟩
theorem dX1_rows_0 : decode cX1_rows 0 = .ok (.aload_n 0, 1) := by decide +kernel
theorem dX1_rows_1 : decode cX1_rows 1 = .ok (.getfield 7, 3) := by decide +kernel
theorem dX1_rows_4 : decode cX1_rows 4 = .ok (.ireturn, 1) := by decide +kernel
abbrev cX1_columns : ByteArray := prog_1_method_33_code
def yX1_columns : MethodName := ⟨RX1, "columns", "()I"⟩
theorem dX1_columns_0 : decode cX1_columns 0 = .ok (.aload_n 0, 1) := by decide +kernel
theorem dX1_columns_1 : decode cX1_columns 1 = .ok (.getfield 13, 3) := by decide +kernel
theorem dX1_columns_4 : decode cX1_columns 4 = .ok (.ireturn, 1) := by decide +kernel
abbrev cX1_forbiddenCount : ByteArray := prog_1_method_34_code
def yX1_forbiddenCount : MethodName := ⟨RX1, "forbiddenCount", "()I"⟩
def dkwX1_forbiddenCount_3 : List UInt8 := [4, 167, 0, 4, 3, 96, 60, 167, 255, 218, 167, 255, 190, 27, 172]
abbrev dktX1_forbiddenCount_3 : List UInt8 := dkwX1_forbiddenCount_3 ++ []
def dkwX1_forbiddenCount_2 : List UInt8 := [153, 0, 34, 25, 4, 185, 0, 114, 1, 0, 192, 0, 95, 58, 5, 27, 25, 5, 182, 0, 135, 156, 0, 7]
abbrev dktX1_forbiddenCount_2 : List UInt8 := dkwX1_forbiddenCount_2 ++ dktX1_forbiddenCount_3
def dkwX1_forbiddenCount_1 : List UInt8 := [185, 0, 114, 1, 0, 192, 0, 91, 78, 45, 182, 0, 104, 58, 4, 25, 4, 185, 0, 108, 1, 0]
abbrev dktX1_forbiddenCount_1 : List UInt8 := dkwX1_forbiddenCount_1 ++ dktX1_forbiddenCount_2
def dkwX1_forbiddenCount_0 : List UInt8 := [3, 60, 42, 180, 0, 20, 182, 0, 104, 77, 44, 185, 0, 108, 1, 0, 153, 0, 63, 44]
abbrev dktX1_forbiddenCount_0 : List UInt8 := dkwX1_forbiddenCount_0 ++ dktX1_forbiddenCount_1
theorem dksX1_forbiddenCount_0 : cX1_forbiddenCount.data.toList.drop 0 = dktX1_forbiddenCount_0 := by decide +kernel
theorem dksX1_forbiddenCount_1 : cX1_forbiddenCount.data.toList.drop 20 = dktX1_forbiddenCount_1 := dk_seg dksX1_forbiddenCount_0 20 rfl rfl
theorem dksX1_forbiddenCount_2 : cX1_forbiddenCount.data.toList.drop 42 = dktX1_forbiddenCount_2 := dk_seg dksX1_forbiddenCount_1 22 rfl rfl
theorem dksX1_forbiddenCount_3 : cX1_forbiddenCount.data.toList.drop 66 = dktX1_forbiddenCount_3 := dk_seg dksX1_forbiddenCount_2 24 rfl rfl
theorem dX1_forbiddenCount_0 : decode cX1_forbiddenCount 0 = .ok (.iconst 0, 1) := dk_3 (dk_at dksX1_forbiddenCount_0 0 rfl rfl)
theorem dX1_forbiddenCount_1 : decode cX1_forbiddenCount 1 = .ok (.istore_n 1, 1) := dk_60 (dk_at dksX1_forbiddenCount_0 1 rfl rfl)
theorem dX1_forbiddenCount_2 : decode cX1_forbiddenCount 2 = .ok (.aload_n 0, 1) := dk_42 (dk_at dksX1_forbiddenCount_0 2 rfl rfl)
theorem dX1_forbiddenCount_3 : decode cX1_forbiddenCount 3 = .ok (.getfield 20, 3) := dk_180 0 20 (dk_at dksX1_forbiddenCount_0 3 rfl rfl)
theorem dX1_forbiddenCount_6 : decode cX1_forbiddenCount 6 = .ok (.invokevirtual 104, 3) := dk_182 0 104 (dk_at dksX1_forbiddenCount_0 6 rfl rfl)
theorem dX1_forbiddenCount_9 : decode cX1_forbiddenCount 9 = .ok (.astore_n 2, 1) := dk_77 (dk_at dksX1_forbiddenCount_0 9 rfl rfl)
theorem dX1_forbiddenCount_10 : decode cX1_forbiddenCount 10 = .ok (.aload_n 2, 1) := dk_44 (dk_at dksX1_forbiddenCount_0 10 rfl rfl)
theorem dX1_forbiddenCount_11 : decode cX1_forbiddenCount 11 = .ok (.invokeinterface 108 1, 5) := by decide +kernel
theorem dX1_forbiddenCount_16 : decode cX1_forbiddenCount 16 = .ok (.ifCond .eq 63, 3) := dk_153 0 63 (dk_at dksX1_forbiddenCount_0 16 rfl rfl)
theorem dX1_forbiddenCount_19 : decode cX1_forbiddenCount 19 = .ok (.aload_n 2, 1) := dk_44 (dk_at dksX1_forbiddenCount_0 19 rfl rfl)
theorem dX1_forbiddenCount_20 : decode cX1_forbiddenCount 20 = .ok (.invokeinterface 114 1, 5) := by decide +kernel
theorem dX1_forbiddenCount_25 : decode cX1_forbiddenCount 25 = .ok (.checkcast 91, 3) := dk_192 0 91 (dk_at dksX1_forbiddenCount_1 5 rfl rfl)
theorem dX1_forbiddenCount_28 : decode cX1_forbiddenCount 28 = .ok (.astore_n 3, 1) := dk_78 (dk_at dksX1_forbiddenCount_1 8 rfl rfl)
theorem dX1_forbiddenCount_29 : decode cX1_forbiddenCount 29 = .ok (.aload_n 3, 1) := dk_45 (dk_at dksX1_forbiddenCount_1 9 rfl rfl)
theorem dX1_forbiddenCount_30 : decode cX1_forbiddenCount 30 = .ok (.invokevirtual 104, 3) := dk_182 0 104 (dk_at dksX1_forbiddenCount_1 10 rfl rfl)
theorem dX1_forbiddenCount_33 : decode cX1_forbiddenCount 33 = .ok (.astore 4, 2) := dk_58 4 (dk_at dksX1_forbiddenCount_1 13 rfl rfl)
theorem dX1_forbiddenCount_35 : decode cX1_forbiddenCount 35 = .ok (.aload 4, 2) := dk_25 4 (dk_at dksX1_forbiddenCount_1 15 rfl rfl)
theorem dX1_forbiddenCount_37 : decode cX1_forbiddenCount 37 = .ok (.invokeinterface 108 1, 5) := by decide +kernel
theorem dX1_forbiddenCount_42 : decode cX1_forbiddenCount 42 = .ok (.ifCond .eq 34, 3) := dk_153 0 34 (dk_at dksX1_forbiddenCount_2 0 rfl rfl)
theorem dX1_forbiddenCount_45 : decode cX1_forbiddenCount 45 = .ok (.aload 4, 2) := dk_25 4 (dk_at dksX1_forbiddenCount_2 3 rfl rfl)
theorem dX1_forbiddenCount_47 : decode cX1_forbiddenCount 47 = .ok (.invokeinterface 114 1, 5) := by decide +kernel
theorem dX1_forbiddenCount_52 : decode cX1_forbiddenCount 52 = .ok (.checkcast 95, 3) := dk_192 0 95 (dk_at dksX1_forbiddenCount_2 10 rfl rfl)
theorem dX1_forbiddenCount_55 : decode cX1_forbiddenCount 55 = .ok (.astore 5, 2) := dk_58 5 (dk_at dksX1_forbiddenCount_2 13 rfl rfl)
theorem dX1_forbiddenCount_57 : decode cX1_forbiddenCount 57 = .ok (.iload_n 1, 1) := dk_27 (dk_at dksX1_forbiddenCount_2 15 rfl rfl)
theorem dX1_forbiddenCount_58 : decode cX1_forbiddenCount 58 = .ok (.aload 5, 2) := dk_25 5 (dk_at dksX1_forbiddenCount_2 16 rfl rfl)
theorem dX1_forbiddenCount_60 : decode cX1_forbiddenCount 60 = .ok (.invokevirtual 135, 3) := dk_182 0 135 (dk_at dksX1_forbiddenCount_2 18 rfl rfl)
theorem dX1_forbiddenCount_63 : decode cX1_forbiddenCount 63 = .ok (.ifCond .ge 7, 3) := dk_156 0 7 (dk_at dksX1_forbiddenCount_2 21 rfl rfl)
theorem dX1_forbiddenCount_66 : decode cX1_forbiddenCount 66 = .ok (.iconst 1, 1) := dk_4 (dk_at dksX1_forbiddenCount_3 0 rfl rfl)
theorem dX1_forbiddenCount_67 : decode cX1_forbiddenCount 67 = .ok (.goto 4, 3) := dk_167 0 4 (dk_at dksX1_forbiddenCount_3 1 rfl rfl)
theorem dX1_forbiddenCount_70 : decode cX1_forbiddenCount 70 = .ok (.iconst 0, 1) := dk_3 (dk_at dksX1_forbiddenCount_3 4 rfl rfl)
theorem dX1_forbiddenCount_71 : decode cX1_forbiddenCount 71 = .ok (.iadd, 1) := dk_96 (dk_at dksX1_forbiddenCount_3 5 rfl rfl)
theorem dX1_forbiddenCount_72 : decode cX1_forbiddenCount 72 = .ok (.istore_n 1, 1) := dk_60 (dk_at dksX1_forbiddenCount_3 6 rfl rfl)
theorem dX1_forbiddenCount_73 : decode cX1_forbiddenCount 73 = .ok (.goto (-38), 3) := dk_167 255 218 (dk_at dksX1_forbiddenCount_3 7 rfl rfl)
theorem dX1_forbiddenCount_76 : decode cX1_forbiddenCount 76 = .ok (.goto (-66), 3) := dk_167 255 190 (dk_at dksX1_forbiddenCount_3 10 rfl rfl)
theorem dX1_forbiddenCount_79 : decode cX1_forbiddenCount 79 = .ok (.iload_n 1, 1) := dk_27 (dk_at dksX1_forbiddenCount_3 13 rfl rfl)
theorem dX1_forbiddenCount_80 : decode cX1_forbiddenCount 80 = .ok (.ireturn, 1) := dk_172 (dk_at dksX1_forbiddenCount_3 14 rfl rfl)
abbrev cX1_minimum : ByteArray := prog_1_method_48_code
def yX1_minimum : MethodName := ⟨RX1, "minimum", "()I"⟩
def dkwX1_minimum_0 : List UInt8 := [42, 182, 1, 28, 42, 182, 1, 30, 172]
abbrev dktX1_minimum_0 : List UInt8 := dkwX1_minimum_0 ++ []
theorem dksX1_minimum_0 : cX1_minimum.data.toList.drop 0 = dktX1_minimum_0 := by decide +kernel
theorem dX1_minimum_0 : decode cX1_minimum 0 = .ok (.aload_n 0, 1) := dk_42 (dk_at dksX1_minimum_0 0 rfl rfl)
theorem dX1_minimum_1 : decode cX1_minimum 1 = .ok (.invokevirtual 284, 3) := dk_182 1 28 (dk_at dksX1_minimum_0 1 rfl rfl)
theorem dX1_minimum_4 : decode cX1_minimum 4 = .ok (.aload_n 0, 1) := dk_42 (dk_at dksX1_minimum_0 4 rfl rfl)
theorem dX1_minimum_5 : decode cX1_minimum 5 = .ok (.invokevirtual 286, 3) := dk_182 1 30 (dk_at dksX1_minimum_0 5 rfl rfl)
theorem dX1_minimum_8 : decode cX1_minimum 8 = .ok (.ireturn, 1) := dk_172 (dk_at dksX1_minimum_0 8 rfl rfl)
abbrev cX1_load : ByteArray := prog_1_method_37_code
def yX1_load : MethodName := ⟨RX1, "load", "()V"⟩
def dkwX1_load_0 : List UInt8 := [42, 42, 180, 0, 20, 42, 180, 0, 7, 42, 180, 0, 13, 182, 0, 240, 177]
abbrev dktX1_load_0 : List UInt8 := dkwX1_load_0 ++ []
theorem dksX1_load_0 : cX1_load.data.toList.drop 0 = dktX1_load_0 := by decide +kernel
theorem dX1_load_0 : decode cX1_load 0 = .ok (.aload_n 0, 1) := dk_42 (dk_at dksX1_load_0 0 rfl rfl)
theorem dX1_load_1 : decode cX1_load 1 = .ok (.aload_n 0, 1) := dk_42 (dk_at dksX1_load_0 1 rfl rfl)
theorem dX1_load_2 : decode cX1_load 2 = .ok (.getfield 20, 3) := dk_180 0 20 (dk_at dksX1_load_0 2 rfl rfl)
theorem dX1_load_5 : decode cX1_load 5 = .ok (.aload_n 0, 1) := dk_42 (dk_at dksX1_load_0 5 rfl rfl)
theorem dX1_load_6 : decode cX1_load 6 = .ok (.getfield 7, 3) := dk_180 0 7 (dk_at dksX1_load_0 6 rfl rfl)
theorem dX1_load_9 : decode cX1_load 9 = .ok (.aload_n 0, 1) := dk_42 (dk_at dksX1_load_0 9 rfl rfl)
theorem dX1_load_10 : decode cX1_load 10 = .ok (.getfield 13, 3) := dk_180 0 13 (dk_at dksX1_load_0 10 rfl rfl)
theorem dX1_load_13 : decode cX1_load 13 = .ok (.invokevirtual 240, 3) := dk_182 0 240 (dk_at dksX1_load_0 13 rfl rfl)
theorem dX1_load_16 : decode cX1_load 16 = .ok (.return_, 1) := dk_177 (dk_at dksX1_load_0 16 rfl rfl)
abbrev cX1_load_2 : ByteArray := prog_1_method_36_code
def yX1_load_2 : MethodName := ⟨RX1, "load", "(Ljava/util/ArrayList;II)V"⟩
def dkwX1_load_2_2 : List UInt8 := [167, 255, 227, 132, 4, 1, 167, 255, 212, 177]
abbrev dktX1_load_2_2 : List UInt8 := dkwX1_load_2_2 ++ []
def dkwX1_load_2_1 : List UInt8 := [180, 0, 35, 21, 4, 50, 21, 5, 42, 43, 29, 21, 4, 21, 5, 182, 0, 143, 79, 132, 5, 1]
abbrev dktX1_load_2_1 : List UInt8 := dkwX1_load_2_1 ++ dktX1_load_2_2
def dkwX1_load_2_0 : List UInt8 := [42, 28, 181, 0, 237, 3, 54, 4, 21, 4, 28, 162, 0, 44, 3, 54, 5, 21, 5, 28, 162, 0, 29, 42]
abbrev dktX1_load_2_0 : List UInt8 := dkwX1_load_2_0 ++ dktX1_load_2_1
theorem dksX1_load_2_0 : cX1_load_2.data.toList.drop 0 = dktX1_load_2_0 := by decide +kernel
theorem dksX1_load_2_1 : cX1_load_2.data.toList.drop 24 = dktX1_load_2_1 := dk_seg dksX1_load_2_0 24 rfl rfl
theorem dksX1_load_2_2 : cX1_load_2.data.toList.drop 46 = dktX1_load_2_2 := dk_seg dksX1_load_2_1 22 rfl rfl
theorem dX1_load_2_0 : decode cX1_load_2 0 = .ok (.aload_n 0, 1) := dk_42 (dk_at dksX1_load_2_0 0 rfl rfl)
theorem dX1_load_2_1 : decode cX1_load_2 1 = .ok (.iload_n 2, 1) := dk_28 (dk_at dksX1_load_2_0 1 rfl rfl)
theorem dX1_load_2_2 : decode cX1_load_2 2 = .ok (.putfield 237, 3) := dk_181 0 237 (dk_at dksX1_load_2_0 2 rfl rfl)
theorem dX1_load_2_5 : decode cX1_load_2 5 = .ok (.iconst 0, 1) := dk_3 (dk_at dksX1_load_2_0 5 rfl rfl)
theorem dX1_load_2_6 : decode cX1_load_2 6 = .ok (.istore 4, 2) := dk_54 4 (dk_at dksX1_load_2_0 6 rfl rfl)
theorem dX1_load_2_8 : decode cX1_load_2 8 = .ok (.iload 4, 2) := dk_21 4 (dk_at dksX1_load_2_0 8 rfl rfl)
theorem dX1_load_2_10 : decode cX1_load_2 10 = .ok (.iload_n 2, 1) := dk_28 (dk_at dksX1_load_2_0 10 rfl rfl)
theorem dX1_load_2_11 : decode cX1_load_2 11 = .ok (.if_icmp .ge 44, 3) := dk_162 0 44 (dk_at dksX1_load_2_0 11 rfl rfl)
theorem dX1_load_2_14 : decode cX1_load_2 14 = .ok (.iconst 0, 1) := dk_3 (dk_at dksX1_load_2_0 14 rfl rfl)
theorem dX1_load_2_15 : decode cX1_load_2 15 = .ok (.istore 5, 2) := dk_54 5 (dk_at dksX1_load_2_0 15 rfl rfl)
theorem dX1_load_2_17 : decode cX1_load_2 17 = .ok (.iload 5, 2) := dk_21 5 (dk_at dksX1_load_2_0 17 rfl rfl)
theorem dX1_load_2_19 : decode cX1_load_2 19 = .ok (.iload_n 2, 1) := dk_28 (dk_at dksX1_load_2_0 19 rfl rfl)
theorem dX1_load_2_20 : decode cX1_load_2 20 = .ok (.if_icmp .ge 29, 3) := dk_162 0 29 (dk_at dksX1_load_2_0 20 rfl rfl)
theorem dX1_load_2_23 : decode cX1_load_2 23 = .ok (.aload_n 0, 1) := dk_42 (dk_at dksX1_load_2_0 23 rfl rfl)
theorem dX1_load_2_24 : decode cX1_load_2 24 = .ok (.getfield 35, 3) := dk_180 0 35 (dk_at dksX1_load_2_1 0 rfl rfl)
theorem dX1_load_2_27 : decode cX1_load_2 27 = .ok (.iload 4, 2) := dk_21 4 (dk_at dksX1_load_2_1 3 rfl rfl)
theorem dX1_load_2_29 : decode cX1_load_2 29 = .ok (.aaload, 1) := dk_50 (dk_at dksX1_load_2_1 5 rfl rfl)
theorem dX1_load_2_30 : decode cX1_load_2 30 = .ok (.iload 5, 2) := dk_21 5 (dk_at dksX1_load_2_1 6 rfl rfl)
theorem dX1_load_2_32 : decode cX1_load_2 32 = .ok (.aload_n 0, 1) := dk_42 (dk_at dksX1_load_2_1 8 rfl rfl)
theorem dX1_load_2_33 : decode cX1_load_2 33 = .ok (.aload_n 1, 1) := dk_43 (dk_at dksX1_load_2_1 9 rfl rfl)
theorem dX1_load_2_34 : decode cX1_load_2 34 = .ok (.iload_n 3, 1) := dk_29 (dk_at dksX1_load_2_1 10 rfl rfl)
theorem dX1_load_2_35 : decode cX1_load_2 35 = .ok (.iload 4, 2) := dk_21 4 (dk_at dksX1_load_2_1 11 rfl rfl)
theorem dX1_load_2_37 : decode cX1_load_2 37 = .ok (.iload 5, 2) := dk_21 5 (dk_at dksX1_load_2_1 13 rfl rfl)
theorem dX1_load_2_39 : decode cX1_load_2 39 = .ok (.invokevirtual 143, 3) := dk_182 0 143 (dk_at dksX1_load_2_1 15 rfl rfl)
theorem dX1_load_2_42 : decode cX1_load_2 42 = .ok (.iastore, 1) := dk_79 (dk_at dksX1_load_2_1 18 rfl rfl)
theorem dX1_load_2_43 : decode cX1_load_2 43 = .ok (.iinc 5 1, 3) := dk_132 5 1 (dk_at dksX1_load_2_1 19 rfl rfl)
theorem dX1_load_2_46 : decode cX1_load_2 46 = .ok (.goto (-29), 3) := dk_167 255 227 (dk_at dksX1_load_2_2 0 rfl rfl)
theorem dX1_load_2_49 : decode cX1_load_2 49 = .ok (.iinc 4 1, 3) := dk_132 4 1 (dk_at dksX1_load_2_2 3 rfl rfl)
theorem dX1_load_2_52 : decode cX1_load_2 52 = .ok (.goto (-44), 3) := dk_167 255 212 (dk_at dksX1_load_2_2 6 rfl rfl)
theorem dX1_load_2_55 : decode cX1_load_2 55 = .ok (.return_, 1) := dk_177 (dk_at dksX1_load_2_2 9 rfl rfl)
abbrev cX1_solve : ByteArray := prog_1_method_44_code
def yX1_solve : MethodName := ⟨RX1, "solve", "()I"⟩
def dkwX1_solve_3 : List UInt8 := [180, 0, 48, 28, 46, 46, 96, 60, 132, 2, 1, 167, 255, 229, 27, 172]
abbrev dktX1_solve_3 : List UInt8 := dkwX1_solve_3 ++ []
def dkwX1_solve_2 : List UInt8 := [167, 255, 240, 3, 60, 3, 61, 28, 42, 180, 0, 237, 162, 0, 25, 27, 42, 180, 0, 35, 28, 50, 42]
abbrev dktX1_solve_2 : List UInt8 := dkwX1_solve_2 ++ dktX1_solve_3
def dkwX1_solve_1 : List UInt8 := [132, 1, 1, 167, 255, 231, 3, 60, 27, 42, 180, 0, 237, 162, 0, 14, 42, 27, 182, 1, 21, 132, 1, 1]
abbrev dktX1_solve_1 : List UInt8 := dkwX1_solve_1 ++ dktX1_solve_2
def dkwX1_solve_0 : List UInt8 := [3, 60, 27, 42, 180, 0, 237, 162, 0, 23, 42, 180, 0, 42, 27, 3, 79, 42, 180, 0, 45, 27, 2, 79]
abbrev dktX1_solve_0 : List UInt8 := dkwX1_solve_0 ++ dktX1_solve_1
theorem dksX1_solve_0 : cX1_solve.data.toList.drop 0 = dktX1_solve_0 := by decide +kernel
theorem dksX1_solve_1 : cX1_solve.data.toList.drop 24 = dktX1_solve_1 := dk_seg dksX1_solve_0 24 rfl rfl
theorem dksX1_solve_2 : cX1_solve.data.toList.drop 48 = dktX1_solve_2 := dk_seg dksX1_solve_1 24 rfl rfl
theorem dksX1_solve_3 : cX1_solve.data.toList.drop 71 = dktX1_solve_3 := dk_seg dksX1_solve_2 23 rfl rfl
theorem dX1_solve_0 : decode cX1_solve 0 = .ok (.iconst 0, 1) := dk_3 (dk_at dksX1_solve_0 0 rfl rfl)
theorem dX1_solve_1 : decode cX1_solve 1 = .ok (.istore_n 1, 1) := dk_60 (dk_at dksX1_solve_0 1 rfl rfl)
theorem dX1_solve_2 : decode cX1_solve 2 = .ok (.iload_n 1, 1) := dk_27 (dk_at dksX1_solve_0 2 rfl rfl)
theorem dX1_solve_3 : decode cX1_solve 3 = .ok (.aload_n 0, 1) := dk_42 (dk_at dksX1_solve_0 3 rfl rfl)
theorem dX1_solve_4 : decode cX1_solve 4 = .ok (.getfield 237, 3) := dk_180 0 237 (dk_at dksX1_solve_0 4 rfl rfl)
theorem dX1_solve_7 : decode cX1_solve 7 = .ok (.if_icmp .ge 23, 3) := dk_162 0 23 (dk_at dksX1_solve_0 7 rfl rfl)
theorem dX1_solve_10 : decode cX1_solve 10 = .ok (.aload_n 0, 1) := dk_42 (dk_at dksX1_solve_0 10 rfl rfl)
theorem dX1_solve_11 : decode cX1_solve 11 = .ok (.getfield 42, 3) := dk_180 0 42 (dk_at dksX1_solve_0 11 rfl rfl)
theorem dX1_solve_14 : decode cX1_solve 14 = .ok (.iload_n 1, 1) := dk_27 (dk_at dksX1_solve_0 14 rfl rfl)
theorem dX1_solve_15 : decode cX1_solve 15 = .ok (.iconst 0, 1) := dk_3 (dk_at dksX1_solve_0 15 rfl rfl)
theorem dX1_solve_16 : decode cX1_solve 16 = .ok (.iastore, 1) := dk_79 (dk_at dksX1_solve_0 16 rfl rfl)
theorem dX1_solve_17 : decode cX1_solve 17 = .ok (.aload_n 0, 1) := dk_42 (dk_at dksX1_solve_0 17 rfl rfl)
theorem dX1_solve_18 : decode cX1_solve 18 = .ok (.getfield 45, 3) := dk_180 0 45 (dk_at dksX1_solve_0 18 rfl rfl)
theorem dX1_solve_21 : decode cX1_solve 21 = .ok (.iload_n 1, 1) := dk_27 (dk_at dksX1_solve_0 21 rfl rfl)
theorem dX1_solve_22 : decode cX1_solve 22 = .ok (.iconst (-1), 1) := dk_2 (dk_at dksX1_solve_0 22 rfl rfl)
theorem dX1_solve_23 : decode cX1_solve 23 = .ok (.iastore, 1) := dk_79 (dk_at dksX1_solve_0 23 rfl rfl)
theorem dX1_solve_24 : decode cX1_solve 24 = .ok (.iinc 1 1, 3) := dk_132 1 1 (dk_at dksX1_solve_1 0 rfl rfl)
theorem dX1_solve_27 : decode cX1_solve 27 = .ok (.goto (-25), 3) := dk_167 255 231 (dk_at dksX1_solve_1 3 rfl rfl)
theorem dX1_solve_30 : decode cX1_solve 30 = .ok (.iconst 0, 1) := dk_3 (dk_at dksX1_solve_1 6 rfl rfl)
theorem dX1_solve_31 : decode cX1_solve 31 = .ok (.istore_n 1, 1) := dk_60 (dk_at dksX1_solve_1 7 rfl rfl)
theorem dX1_solve_32 : decode cX1_solve 32 = .ok (.iload_n 1, 1) := dk_27 (dk_at dksX1_solve_1 8 rfl rfl)
theorem dX1_solve_33 : decode cX1_solve 33 = .ok (.aload_n 0, 1) := dk_42 (dk_at dksX1_solve_1 9 rfl rfl)
theorem dX1_solve_34 : decode cX1_solve 34 = .ok (.getfield 237, 3) := dk_180 0 237 (dk_at dksX1_solve_1 10 rfl rfl)
theorem dX1_solve_37 : decode cX1_solve 37 = .ok (.if_icmp .ge 14, 3) := dk_162 0 14 (dk_at dksX1_solve_1 13 rfl rfl)
theorem dX1_solve_40 : decode cX1_solve 40 = .ok (.aload_n 0, 1) := dk_42 (dk_at dksX1_solve_1 16 rfl rfl)
theorem dX1_solve_41 : decode cX1_solve 41 = .ok (.iload_n 1, 1) := dk_27 (dk_at dksX1_solve_1 17 rfl rfl)
theorem dX1_solve_42 : decode cX1_solve 42 = .ok (.invokevirtual 277, 3) := dk_182 1 21 (dk_at dksX1_solve_1 18 rfl rfl)
theorem dX1_solve_45 : decode cX1_solve 45 = .ok (.iinc 1 1, 3) := dk_132 1 1 (dk_at dksX1_solve_1 21 rfl rfl)
theorem dX1_solve_48 : decode cX1_solve 48 = .ok (.goto (-16), 3) := dk_167 255 240 (dk_at dksX1_solve_2 0 rfl rfl)
theorem dX1_solve_51 : decode cX1_solve 51 = .ok (.iconst 0, 1) := dk_3 (dk_at dksX1_solve_2 3 rfl rfl)
theorem dX1_solve_52 : decode cX1_solve 52 = .ok (.istore_n 1, 1) := dk_60 (dk_at dksX1_solve_2 4 rfl rfl)
theorem dX1_solve_53 : decode cX1_solve 53 = .ok (.iconst 0, 1) := dk_3 (dk_at dksX1_solve_2 5 rfl rfl)
theorem dX1_solve_54 : decode cX1_solve 54 = .ok (.istore_n 2, 1) := dk_61 (dk_at dksX1_solve_2 6 rfl rfl)
theorem dX1_solve_55 : decode cX1_solve 55 = .ok (.iload_n 2, 1) := dk_28 (dk_at dksX1_solve_2 7 rfl rfl)
theorem dX1_solve_56 : decode cX1_solve 56 = .ok (.aload_n 0, 1) := dk_42 (dk_at dksX1_solve_2 8 rfl rfl)
theorem dX1_solve_57 : decode cX1_solve 57 = .ok (.getfield 237, 3) := dk_180 0 237 (dk_at dksX1_solve_2 9 rfl rfl)
theorem dX1_solve_60 : decode cX1_solve 60 = .ok (.if_icmp .ge 25, 3) := dk_162 0 25 (dk_at dksX1_solve_2 12 rfl rfl)
theorem dX1_solve_63 : decode cX1_solve 63 = .ok (.iload_n 1, 1) := dk_27 (dk_at dksX1_solve_2 15 rfl rfl)
theorem dX1_solve_64 : decode cX1_solve 64 = .ok (.aload_n 0, 1) := dk_42 (dk_at dksX1_solve_2 16 rfl rfl)
theorem dX1_solve_65 : decode cX1_solve 65 = .ok (.getfield 35, 3) := dk_180 0 35 (dk_at dksX1_solve_2 17 rfl rfl)
theorem dX1_solve_68 : decode cX1_solve 68 = .ok (.iload_n 2, 1) := dk_28 (dk_at dksX1_solve_2 20 rfl rfl)
theorem dX1_solve_69 : decode cX1_solve 69 = .ok (.aaload, 1) := dk_50 (dk_at dksX1_solve_2 21 rfl rfl)
theorem dX1_solve_70 : decode cX1_solve 70 = .ok (.aload_n 0, 1) := dk_42 (dk_at dksX1_solve_2 22 rfl rfl)
theorem dX1_solve_71 : decode cX1_solve 71 = .ok (.getfield 48, 3) := dk_180 0 48 (dk_at dksX1_solve_3 0 rfl rfl)
theorem dX1_solve_74 : decode cX1_solve 74 = .ok (.iload_n 2, 1) := dk_28 (dk_at dksX1_solve_3 3 rfl rfl)
theorem dX1_solve_75 : decode cX1_solve 75 = .ok (.iaload, 1) := dk_46 (dk_at dksX1_solve_3 4 rfl rfl)
theorem dX1_solve_76 : decode cX1_solve 76 = .ok (.iaload, 1) := dk_46 (dk_at dksX1_solve_3 5 rfl rfl)
theorem dX1_solve_77 : decode cX1_solve 77 = .ok (.iadd, 1) := dk_96 (dk_at dksX1_solve_3 6 rfl rfl)
theorem dX1_solve_78 : decode cX1_solve 78 = .ok (.istore_n 1, 1) := dk_60 (dk_at dksX1_solve_3 7 rfl rfl)
theorem dX1_solve_79 : decode cX1_solve 79 = .ok (.iinc 2 1, 3) := dk_132 2 1 (dk_at dksX1_solve_3 8 rfl rfl)
theorem dX1_solve_82 : decode cX1_solve 82 = .ok (.goto (-27), 3) := dk_167 255 229 (dk_at dksX1_solve_3 11 rfl rfl)
theorem dX1_solve_85 : decode cX1_solve 85 = .ok (.iload_n 1, 1) := dk_27 (dk_at dksX1_solve_3 14 rfl rfl)
theorem dX1_solve_86 : decode cX1_solve 86 = .ok (.ireturn, 1) := dk_172 (dk_at dksX1_solve_3 15 rfl rfl)
abbrev cX1_augment : ByteArray := prog_1_method_43_code
def yX1_augment : MethodName := ⟨RX1, "augment", "(I)V"⟩
def dkwX1_augment_11 : List UInt8 := [42, 180, 0, 48, 27, 21, 5, 79, 177]
abbrev dktX1_augment_11 : List UInt8 := dkwX1_augment_11 ++ []
def dkwX1_augment_10 : List UInt8 := [21, 7, 54, 5, 42, 180, 0, 54, 21, 5, 46, 54, 6, 167, 255, 210, 42, 180, 0, 45, 21, 5, 27, 79]
abbrev dktX1_augment_10 : List UInt8 := dkwX1_augment_10 ++ dktX1_augment_11
def dkwX1_augment_9 : List UInt8 := [21, 6, 46, 54, 7, 42, 180, 0, 45, 21, 5, 21, 6, 79, 42, 180, 0, 48, 21, 6, 21, 5, 79]
abbrev dktX1_augment_9 : List UInt8 := dkwX1_augment_9 ++ dktX1_augment_10
def dkwX1_augment_8 : List UInt8 := [96, 79, 29, 54, 5, 42, 180, 0, 54, 21, 5, 46, 54, 6, 21, 6, 27, 159, 0, 46, 42, 180, 0, 48]
abbrev dktX1_augment_8 : List UInt8 := dkwX1_augment_8 ++ dktX1_augment_9
def dkwX1_augment_7 : List UInt8 := [180, 0, 51, 21, 5, 46, 100, 96, 79, 132, 5, 1, 167, 255, 183, 42, 180, 0, 38, 27, 92, 46, 21, 4]
abbrev dktX1_augment_7 : List UInt8 := dkwX1_augment_7 ++ dktX1_augment_8
def dkwX1_augment_6 : List UInt8 := [21, 5, 46, 21, 4, 100, 96, 79, 42, 180, 0, 38, 42, 180, 0, 45, 21, 5, 46, 92, 46, 21, 4, 42]
abbrev dktX1_augment_6 : List UInt8 := dkwX1_augment_6 ++ dktX1_augment_7
def dkwX1_augment_5 : List UInt8 := [21, 5, 51, 153, 0, 54, 21, 5, 29, 159, 0, 48, 42, 180, 0, 42, 21, 5, 92, 46, 42, 180, 0, 51]
abbrev dktX1_augment_5 : List UInt8 := dkwX1_augment_5 ++ dktX1_augment_6
def dkwX1_augment_4 : List UInt8 := [42, 180, 0, 51, 29, 46, 54, 4, 3, 54, 5, 21, 5, 42, 180, 0, 237, 162, 0, 70, 42, 180, 0, 57]
abbrev dktX1_augment_4 : List UInt8 := dkwX1_augment_4 ++ dktX1_augment_5
def dkwX1_augment_3 : List UInt8 := [42, 42, 180, 0, 45, 29, 46, 42, 180, 0, 51, 29, 46, 182, 1, 15, 42, 182, 1, 18, 62, 167, 255, 225]
abbrev dktX1_augment_3 : List UInt8 := dkwX1_augment_3 ++ dktX1_augment_4
def dkwX1_augment_2 : List UInt8 := [182, 1, 12, 42, 27, 3, 182, 1, 15, 42, 182, 1, 18, 62, 42, 180, 0, 45, 29, 46, 2, 159, 0, 27]
abbrev dktX1_augment_2 : List UInt8 := dkwX1_augment_2 ++ dktX1_augment_3
def dkwX1_augment_1 : List UInt8 := [180, 0, 42, 29, 46, 100, 184, 0, 190, 61, 132, 3, 1, 167, 255, 225, 42, 180, 0, 38, 27, 28, 79, 42]
abbrev dktX1_augment_1 : List UInt8 := dkwX1_augment_1 ++ dktX1_augment_2
def dkwX1_augment_0 : List UInt8 := [18, 255, 61, 3, 62, 29, 42, 180, 0, 237, 162, 0, 29, 28, 42, 180, 0, 35, 27, 50, 29, 46, 42]
abbrev dktX1_augment_0 : List UInt8 := dkwX1_augment_0 ++ dktX1_augment_1
theorem dksX1_augment_0 : cX1_augment.data.toList.drop 0 = dktX1_augment_0 := by decide +kernel
theorem dksX1_augment_1 : cX1_augment.data.toList.drop 23 = dktX1_augment_1 := dk_seg dksX1_augment_0 23 rfl rfl
theorem dksX1_augment_2 : cX1_augment.data.toList.drop 47 = dktX1_augment_2 := dk_seg dksX1_augment_1 24 rfl rfl
theorem dksX1_augment_3 : cX1_augment.data.toList.drop 71 = dktX1_augment_3 := dk_seg dksX1_augment_2 24 rfl rfl
theorem dksX1_augment_4 : cX1_augment.data.toList.drop 95 = dktX1_augment_4 := dk_seg dksX1_augment_3 24 rfl rfl
theorem dksX1_augment_5 : cX1_augment.data.toList.drop 119 = dktX1_augment_5 := dk_seg dksX1_augment_4 24 rfl rfl
theorem dksX1_augment_6 : cX1_augment.data.toList.drop 143 = dktX1_augment_6 := dk_seg dksX1_augment_5 24 rfl rfl
theorem dksX1_augment_7 : cX1_augment.data.toList.drop 167 = dktX1_augment_7 := dk_seg dksX1_augment_6 24 rfl rfl
theorem dksX1_augment_8 : cX1_augment.data.toList.drop 191 = dktX1_augment_8 := dk_seg dksX1_augment_7 24 rfl rfl
theorem dksX1_augment_9 : cX1_augment.data.toList.drop 215 = dktX1_augment_9 := dk_seg dksX1_augment_8 24 rfl rfl
theorem dksX1_augment_10 : cX1_augment.data.toList.drop 238 = dktX1_augment_10 := dk_seg dksX1_augment_9 23 rfl rfl
theorem dksX1_augment_11 : cX1_augment.data.toList.drop 262 = dktX1_augment_11 := dk_seg dksX1_augment_10 24 rfl rfl
theorem dX1_augment_0 : decode cX1_augment 0 = .ok (.ldc 255, 2) := dk_18 255 (dk_at dksX1_augment_0 0 rfl rfl)
theorem dX1_augment_2 : decode cX1_augment 2 = .ok (.istore_n 2, 1) := dk_61 (dk_at dksX1_augment_0 2 rfl rfl)
theorem dX1_augment_3 : decode cX1_augment 3 = .ok (.iconst 0, 1) := dk_3 (dk_at dksX1_augment_0 3 rfl rfl)
theorem dX1_augment_4 : decode cX1_augment 4 = .ok (.istore_n 3, 1) := dk_62 (dk_at dksX1_augment_0 4 rfl rfl)
theorem dX1_augment_5 : decode cX1_augment 5 = .ok (.iload_n 3, 1) := dk_29 (dk_at dksX1_augment_0 5 rfl rfl)
theorem dX1_augment_6 : decode cX1_augment 6 = .ok (.aload_n 0, 1) := dk_42 (dk_at dksX1_augment_0 6 rfl rfl)
theorem dX1_augment_7 : decode cX1_augment 7 = .ok (.getfield 237, 3) := dk_180 0 237 (dk_at dksX1_augment_0 7 rfl rfl)
theorem dX1_augment_10 : decode cX1_augment 10 = .ok (.if_icmp .ge 29, 3) := dk_162 0 29 (dk_at dksX1_augment_0 10 rfl rfl)
theorem dX1_augment_13 : decode cX1_augment 13 = .ok (.iload_n 2, 1) := dk_28 (dk_at dksX1_augment_0 13 rfl rfl)
theorem dX1_augment_14 : decode cX1_augment 14 = .ok (.aload_n 0, 1) := dk_42 (dk_at dksX1_augment_0 14 rfl rfl)
theorem dX1_augment_15 : decode cX1_augment 15 = .ok (.getfield 35, 3) := dk_180 0 35 (dk_at dksX1_augment_0 15 rfl rfl)
theorem dX1_augment_18 : decode cX1_augment 18 = .ok (.iload_n 1, 1) := dk_27 (dk_at dksX1_augment_0 18 rfl rfl)
theorem dX1_augment_19 : decode cX1_augment 19 = .ok (.aaload, 1) := dk_50 (dk_at dksX1_augment_0 19 rfl rfl)
theorem dX1_augment_20 : decode cX1_augment 20 = .ok (.iload_n 3, 1) := dk_29 (dk_at dksX1_augment_0 20 rfl rfl)
theorem dX1_augment_21 : decode cX1_augment 21 = .ok (.iaload, 1) := dk_46 (dk_at dksX1_augment_0 21 rfl rfl)
theorem dX1_augment_22 : decode cX1_augment 22 = .ok (.aload_n 0, 1) := dk_42 (dk_at dksX1_augment_0 22 rfl rfl)
theorem dX1_augment_23 : decode cX1_augment 23 = .ok (.getfield 42, 3) := dk_180 0 42 (dk_at dksX1_augment_1 0 rfl rfl)
theorem dX1_augment_26 : decode cX1_augment 26 = .ok (.iload_n 3, 1) := dk_29 (dk_at dksX1_augment_1 3 rfl rfl)
theorem dX1_augment_27 : decode cX1_augment 27 = .ok (.iaload, 1) := dk_46 (dk_at dksX1_augment_1 4 rfl rfl)
theorem dX1_augment_28 : decode cX1_augment 28 = .ok (.isub, 1) := dk_100 (dk_at dksX1_augment_1 5 rfl rfl)
theorem dX1_augment_29 : decode cX1_augment 29 = .ok (.invokestatic 190, 3) := dk_184 0 190 (dk_at dksX1_augment_1 6 rfl rfl)
theorem dX1_augment_32 : decode cX1_augment 32 = .ok (.istore_n 2, 1) := dk_61 (dk_at dksX1_augment_1 9 rfl rfl)
theorem dX1_augment_33 : decode cX1_augment 33 = .ok (.iinc 3 1, 3) := dk_132 3 1 (dk_at dksX1_augment_1 10 rfl rfl)
theorem dX1_augment_36 : decode cX1_augment 36 = .ok (.goto (-31), 3) := dk_167 255 225 (dk_at dksX1_augment_1 13 rfl rfl)
theorem dX1_augment_39 : decode cX1_augment 39 = .ok (.aload_n 0, 1) := dk_42 (dk_at dksX1_augment_1 16 rfl rfl)
theorem dX1_augment_40 : decode cX1_augment 40 = .ok (.getfield 38, 3) := dk_180 0 38 (dk_at dksX1_augment_1 17 rfl rfl)
theorem dX1_augment_43 : decode cX1_augment 43 = .ok (.iload_n 1, 1) := dk_27 (dk_at dksX1_augment_1 20 rfl rfl)
theorem dX1_augment_44 : decode cX1_augment 44 = .ok (.iload_n 2, 1) := dk_28 (dk_at dksX1_augment_1 21 rfl rfl)
theorem dX1_augment_45 : decode cX1_augment 45 = .ok (.iastore, 1) := dk_79 (dk_at dksX1_augment_1 22 rfl rfl)
theorem dX1_augment_46 : decode cX1_augment 46 = .ok (.aload_n 0, 1) := dk_42 (dk_at dksX1_augment_1 23 rfl rfl)
theorem dX1_augment_47 : decode cX1_augment 47 = .ok (.invokevirtual 268, 3) := dk_182 1 12 (dk_at dksX1_augment_2 0 rfl rfl)
theorem dX1_augment_50 : decode cX1_augment 50 = .ok (.aload_n 0, 1) := dk_42 (dk_at dksX1_augment_2 3 rfl rfl)
theorem dX1_augment_51 : decode cX1_augment 51 = .ok (.iload_n 1, 1) := dk_27 (dk_at dksX1_augment_2 4 rfl rfl)
theorem dX1_augment_52 : decode cX1_augment 52 = .ok (.iconst 0, 1) := dk_3 (dk_at dksX1_augment_2 5 rfl rfl)
theorem dX1_augment_53 : decode cX1_augment 53 = .ok (.invokevirtual 271, 3) := dk_182 1 15 (dk_at dksX1_augment_2 6 rfl rfl)
theorem dX1_augment_56 : decode cX1_augment 56 = .ok (.aload_n 0, 1) := dk_42 (dk_at dksX1_augment_2 9 rfl rfl)
theorem dX1_augment_57 : decode cX1_augment 57 = .ok (.invokevirtual 274, 3) := dk_182 1 18 (dk_at dksX1_augment_2 10 rfl rfl)
theorem dX1_augment_60 : decode cX1_augment 60 = .ok (.istore_n 3, 1) := dk_62 (dk_at dksX1_augment_2 13 rfl rfl)
theorem dX1_augment_61 : decode cX1_augment 61 = .ok (.aload_n 0, 1) := dk_42 (dk_at dksX1_augment_2 14 rfl rfl)
theorem dX1_augment_62 : decode cX1_augment 62 = .ok (.getfield 45, 3) := dk_180 0 45 (dk_at dksX1_augment_2 15 rfl rfl)
theorem dX1_augment_65 : decode cX1_augment 65 = .ok (.iload_n 3, 1) := dk_29 (dk_at dksX1_augment_2 18 rfl rfl)
theorem dX1_augment_66 : decode cX1_augment 66 = .ok (.iaload, 1) := dk_46 (dk_at dksX1_augment_2 19 rfl rfl)
theorem dX1_augment_67 : decode cX1_augment 67 = .ok (.iconst (-1), 1) := dk_2 (dk_at dksX1_augment_2 20 rfl rfl)
theorem dX1_augment_68 : decode cX1_augment 68 = .ok (.if_icmp .eq 27, 3) := dk_159 0 27 (dk_at dksX1_augment_2 21 rfl rfl)
theorem dX1_augment_71 : decode cX1_augment 71 = .ok (.aload_n 0, 1) := dk_42 (dk_at dksX1_augment_3 0 rfl rfl)
theorem dX1_augment_72 : decode cX1_augment 72 = .ok (.aload_n 0, 1) := dk_42 (dk_at dksX1_augment_3 1 rfl rfl)
theorem dX1_augment_73 : decode cX1_augment 73 = .ok (.getfield 45, 3) := dk_180 0 45 (dk_at dksX1_augment_3 2 rfl rfl)
theorem dX1_augment_76 : decode cX1_augment 76 = .ok (.iload_n 3, 1) := dk_29 (dk_at dksX1_augment_3 5 rfl rfl)
theorem dX1_augment_77 : decode cX1_augment 77 = .ok (.iaload, 1) := dk_46 (dk_at dksX1_augment_3 6 rfl rfl)
theorem dX1_augment_78 : decode cX1_augment 78 = .ok (.aload_n 0, 1) := dk_42 (dk_at dksX1_augment_3 7 rfl rfl)
theorem dX1_augment_79 : decode cX1_augment 79 = .ok (.getfield 51, 3) := dk_180 0 51 (dk_at dksX1_augment_3 8 rfl rfl)
theorem dX1_augment_82 : decode cX1_augment 82 = .ok (.iload_n 3, 1) := dk_29 (dk_at dksX1_augment_3 11 rfl rfl)
theorem dX1_augment_83 : decode cX1_augment 83 = .ok (.iaload, 1) := dk_46 (dk_at dksX1_augment_3 12 rfl rfl)
theorem dX1_augment_84 : decode cX1_augment 84 = .ok (.invokevirtual 271, 3) := dk_182 1 15 (dk_at dksX1_augment_3 13 rfl rfl)
theorem dX1_augment_87 : decode cX1_augment 87 = .ok (.aload_n 0, 1) := dk_42 (dk_at dksX1_augment_3 16 rfl rfl)
theorem dX1_augment_88 : decode cX1_augment 88 = .ok (.invokevirtual 274, 3) := dk_182 1 18 (dk_at dksX1_augment_3 17 rfl rfl)
theorem dX1_augment_91 : decode cX1_augment 91 = .ok (.istore_n 3, 1) := dk_62 (dk_at dksX1_augment_3 20 rfl rfl)
theorem dX1_augment_92 : decode cX1_augment 92 = .ok (.goto (-31), 3) := dk_167 255 225 (dk_at dksX1_augment_3 21 rfl rfl)
theorem dX1_augment_95 : decode cX1_augment 95 = .ok (.aload_n 0, 1) := dk_42 (dk_at dksX1_augment_4 0 rfl rfl)
theorem dX1_augment_96 : decode cX1_augment 96 = .ok (.getfield 51, 3) := dk_180 0 51 (dk_at dksX1_augment_4 1 rfl rfl)
theorem dX1_augment_99 : decode cX1_augment 99 = .ok (.iload_n 3, 1) := dk_29 (dk_at dksX1_augment_4 4 rfl rfl)
theorem dX1_augment_100 : decode cX1_augment 100 = .ok (.iaload, 1) := dk_46 (dk_at dksX1_augment_4 5 rfl rfl)
theorem dX1_augment_101 : decode cX1_augment 101 = .ok (.istore 4, 2) := dk_54 4 (dk_at dksX1_augment_4 6 rfl rfl)
theorem dX1_augment_103 : decode cX1_augment 103 = .ok (.iconst 0, 1) := dk_3 (dk_at dksX1_augment_4 8 rfl rfl)
theorem dX1_augment_104 : decode cX1_augment 104 = .ok (.istore 5, 2) := dk_54 5 (dk_at dksX1_augment_4 9 rfl rfl)
theorem dX1_augment_106 : decode cX1_augment 106 = .ok (.iload 5, 2) := dk_21 5 (dk_at dksX1_augment_4 11 rfl rfl)
theorem dX1_augment_108 : decode cX1_augment 108 = .ok (.aload_n 0, 1) := dk_42 (dk_at dksX1_augment_4 13 rfl rfl)
theorem dX1_augment_109 : decode cX1_augment 109 = .ok (.getfield 237, 3) := dk_180 0 237 (dk_at dksX1_augment_4 14 rfl rfl)
theorem dX1_augment_112 : decode cX1_augment 112 = .ok (.if_icmp .ge 70, 3) := dk_162 0 70 (dk_at dksX1_augment_4 17 rfl rfl)
theorem dX1_augment_115 : decode cX1_augment 115 = .ok (.aload_n 0, 1) := dk_42 (dk_at dksX1_augment_4 20 rfl rfl)
theorem dX1_augment_116 : decode cX1_augment 116 = .ok (.getfield 57, 3) := dk_180 0 57 (dk_at dksX1_augment_4 21 rfl rfl)
theorem dX1_augment_119 : decode cX1_augment 119 = .ok (.iload 5, 2) := dk_21 5 (dk_at dksX1_augment_5 0 rfl rfl)
theorem dX1_augment_121 : decode cX1_augment 121 = .ok (.baload, 1) := dk_51 (dk_at dksX1_augment_5 2 rfl rfl)
theorem dX1_augment_122 : decode cX1_augment 122 = .ok (.ifCond .eq 54, 3) := dk_153 0 54 (dk_at dksX1_augment_5 3 rfl rfl)
theorem dX1_augment_125 : decode cX1_augment 125 = .ok (.iload 5, 2) := dk_21 5 (dk_at dksX1_augment_5 6 rfl rfl)
theorem dX1_augment_127 : decode cX1_augment 127 = .ok (.iload_n 3, 1) := dk_29 (dk_at dksX1_augment_5 8 rfl rfl)
theorem dX1_augment_128 : decode cX1_augment 128 = .ok (.if_icmp .eq 48, 3) := dk_159 0 48 (dk_at dksX1_augment_5 9 rfl rfl)
theorem dX1_augment_131 : decode cX1_augment 131 = .ok (.aload_n 0, 1) := dk_42 (dk_at dksX1_augment_5 12 rfl rfl)
theorem dX1_augment_132 : decode cX1_augment 132 = .ok (.getfield 42, 3) := dk_180 0 42 (dk_at dksX1_augment_5 13 rfl rfl)
theorem dX1_augment_135 : decode cX1_augment 135 = .ok (.iload 5, 2) := dk_21 5 (dk_at dksX1_augment_5 16 rfl rfl)
theorem dX1_augment_137 : decode cX1_augment 137 = .ok (.dup2, 1) := dk_92 (dk_at dksX1_augment_5 18 rfl rfl)
theorem dX1_augment_138 : decode cX1_augment 138 = .ok (.iaload, 1) := dk_46 (dk_at dksX1_augment_5 19 rfl rfl)
theorem dX1_augment_139 : decode cX1_augment 139 = .ok (.aload_n 0, 1) := dk_42 (dk_at dksX1_augment_5 20 rfl rfl)
theorem dX1_augment_140 : decode cX1_augment 140 = .ok (.getfield 51, 3) := dk_180 0 51 (dk_at dksX1_augment_5 21 rfl rfl)
theorem dX1_augment_143 : decode cX1_augment 143 = .ok (.iload 5, 2) := dk_21 5 (dk_at dksX1_augment_6 0 rfl rfl)
theorem dX1_augment_145 : decode cX1_augment 145 = .ok (.iaload, 1) := dk_46 (dk_at dksX1_augment_6 2 rfl rfl)
theorem dX1_augment_146 : decode cX1_augment 146 = .ok (.iload 4, 2) := dk_21 4 (dk_at dksX1_augment_6 3 rfl rfl)
theorem dX1_augment_148 : decode cX1_augment 148 = .ok (.isub, 1) := dk_100 (dk_at dksX1_augment_6 5 rfl rfl)
theorem dX1_augment_149 : decode cX1_augment 149 = .ok (.iadd, 1) := dk_96 (dk_at dksX1_augment_6 6 rfl rfl)
theorem dX1_augment_150 : decode cX1_augment 150 = .ok (.iastore, 1) := dk_79 (dk_at dksX1_augment_6 7 rfl rfl)
theorem dX1_augment_151 : decode cX1_augment 151 = .ok (.aload_n 0, 1) := dk_42 (dk_at dksX1_augment_6 8 rfl rfl)
theorem dX1_augment_152 : decode cX1_augment 152 = .ok (.getfield 38, 3) := dk_180 0 38 (dk_at dksX1_augment_6 9 rfl rfl)
theorem dX1_augment_155 : decode cX1_augment 155 = .ok (.aload_n 0, 1) := dk_42 (dk_at dksX1_augment_6 12 rfl rfl)
theorem dX1_augment_156 : decode cX1_augment 156 = .ok (.getfield 45, 3) := dk_180 0 45 (dk_at dksX1_augment_6 13 rfl rfl)
theorem dX1_augment_159 : decode cX1_augment 159 = .ok (.iload 5, 2) := dk_21 5 (dk_at dksX1_augment_6 16 rfl rfl)
theorem dX1_augment_161 : decode cX1_augment 161 = .ok (.iaload, 1) := dk_46 (dk_at dksX1_augment_6 18 rfl rfl)
theorem dX1_augment_162 : decode cX1_augment 162 = .ok (.dup2, 1) := dk_92 (dk_at dksX1_augment_6 19 rfl rfl)
theorem dX1_augment_163 : decode cX1_augment 163 = .ok (.iaload, 1) := dk_46 (dk_at dksX1_augment_6 20 rfl rfl)
theorem dX1_augment_164 : decode cX1_augment 164 = .ok (.iload 4, 2) := dk_21 4 (dk_at dksX1_augment_6 21 rfl rfl)
theorem dX1_augment_166 : decode cX1_augment 166 = .ok (.aload_n 0, 1) := dk_42 (dk_at dksX1_augment_6 23 rfl rfl)
theorem dX1_augment_167 : decode cX1_augment 167 = .ok (.getfield 51, 3) := dk_180 0 51 (dk_at dksX1_augment_7 0 rfl rfl)
theorem dX1_augment_170 : decode cX1_augment 170 = .ok (.iload 5, 2) := dk_21 5 (dk_at dksX1_augment_7 3 rfl rfl)
theorem dX1_augment_172 : decode cX1_augment 172 = .ok (.iaload, 1) := dk_46 (dk_at dksX1_augment_7 5 rfl rfl)
theorem dX1_augment_173 : decode cX1_augment 173 = .ok (.isub, 1) := dk_100 (dk_at dksX1_augment_7 6 rfl rfl)
theorem dX1_augment_174 : decode cX1_augment 174 = .ok (.iadd, 1) := dk_96 (dk_at dksX1_augment_7 7 rfl rfl)
theorem dX1_augment_175 : decode cX1_augment 175 = .ok (.iastore, 1) := dk_79 (dk_at dksX1_augment_7 8 rfl rfl)
theorem dX1_augment_176 : decode cX1_augment 176 = .ok (.iinc 5 1, 3) := dk_132 5 1 (dk_at dksX1_augment_7 9 rfl rfl)
theorem dX1_augment_179 : decode cX1_augment 179 = .ok (.goto (-73), 3) := dk_167 255 183 (dk_at dksX1_augment_7 12 rfl rfl)
theorem dX1_augment_182 : decode cX1_augment 182 = .ok (.aload_n 0, 1) := dk_42 (dk_at dksX1_augment_7 15 rfl rfl)
theorem dX1_augment_183 : decode cX1_augment 183 = .ok (.getfield 38, 3) := dk_180 0 38 (dk_at dksX1_augment_7 16 rfl rfl)
theorem dX1_augment_186 : decode cX1_augment 186 = .ok (.iload_n 1, 1) := dk_27 (dk_at dksX1_augment_7 19 rfl rfl)
theorem dX1_augment_187 : decode cX1_augment 187 = .ok (.dup2, 1) := dk_92 (dk_at dksX1_augment_7 20 rfl rfl)
theorem dX1_augment_188 : decode cX1_augment 188 = .ok (.iaload, 1) := dk_46 (dk_at dksX1_augment_7 21 rfl rfl)
theorem dX1_augment_189 : decode cX1_augment 189 = .ok (.iload 4, 2) := dk_21 4 (dk_at dksX1_augment_7 22 rfl rfl)
theorem dX1_augment_191 : decode cX1_augment 191 = .ok (.iadd, 1) := dk_96 (dk_at dksX1_augment_8 0 rfl rfl)
theorem dX1_augment_192 : decode cX1_augment 192 = .ok (.iastore, 1) := dk_79 (dk_at dksX1_augment_8 1 rfl rfl)
theorem dX1_augment_193 : decode cX1_augment 193 = .ok (.iload_n 3, 1) := dk_29 (dk_at dksX1_augment_8 2 rfl rfl)
theorem dX1_augment_194 : decode cX1_augment 194 = .ok (.istore 5, 2) := dk_54 5 (dk_at dksX1_augment_8 3 rfl rfl)
theorem dX1_augment_196 : decode cX1_augment 196 = .ok (.aload_n 0, 1) := dk_42 (dk_at dksX1_augment_8 5 rfl rfl)
theorem dX1_augment_197 : decode cX1_augment 197 = .ok (.getfield 54, 3) := dk_180 0 54 (dk_at dksX1_augment_8 6 rfl rfl)
theorem dX1_augment_200 : decode cX1_augment 200 = .ok (.iload 5, 2) := dk_21 5 (dk_at dksX1_augment_8 9 rfl rfl)
theorem dX1_augment_202 : decode cX1_augment 202 = .ok (.iaload, 1) := dk_46 (dk_at dksX1_augment_8 11 rfl rfl)
theorem dX1_augment_203 : decode cX1_augment 203 = .ok (.istore 6, 2) := dk_54 6 (dk_at dksX1_augment_8 12 rfl rfl)
theorem dX1_augment_205 : decode cX1_augment 205 = .ok (.iload 6, 2) := dk_21 6 (dk_at dksX1_augment_8 14 rfl rfl)
theorem dX1_augment_207 : decode cX1_augment 207 = .ok (.iload_n 1, 1) := dk_27 (dk_at dksX1_augment_8 16 rfl rfl)
theorem dX1_augment_208 : decode cX1_augment 208 = .ok (.if_icmp .eq 46, 3) := dk_159 0 46 (dk_at dksX1_augment_8 17 rfl rfl)
theorem dX1_augment_211 : decode cX1_augment 211 = .ok (.aload_n 0, 1) := dk_42 (dk_at dksX1_augment_8 20 rfl rfl)
theorem dX1_augment_212 : decode cX1_augment 212 = .ok (.getfield 48, 3) := dk_180 0 48 (dk_at dksX1_augment_8 21 rfl rfl)
theorem dX1_augment_215 : decode cX1_augment 215 = .ok (.iload 6, 2) := dk_21 6 (dk_at dksX1_augment_9 0 rfl rfl)
theorem dX1_augment_217 : decode cX1_augment 217 = .ok (.iaload, 1) := dk_46 (dk_at dksX1_augment_9 2 rfl rfl)
theorem dX1_augment_218 : decode cX1_augment 218 = .ok (.istore 7, 2) := dk_54 7 (dk_at dksX1_augment_9 3 rfl rfl)
theorem dX1_augment_220 : decode cX1_augment 220 = .ok (.aload_n 0, 1) := dk_42 (dk_at dksX1_augment_9 5 rfl rfl)
theorem dX1_augment_221 : decode cX1_augment 221 = .ok (.getfield 45, 3) := dk_180 0 45 (dk_at dksX1_augment_9 6 rfl rfl)
theorem dX1_augment_224 : decode cX1_augment 224 = .ok (.iload 5, 2) := dk_21 5 (dk_at dksX1_augment_9 9 rfl rfl)
theorem dX1_augment_226 : decode cX1_augment 226 = .ok (.iload 6, 2) := dk_21 6 (dk_at dksX1_augment_9 11 rfl rfl)
theorem dX1_augment_228 : decode cX1_augment 228 = .ok (.iastore, 1) := dk_79 (dk_at dksX1_augment_9 13 rfl rfl)
theorem dX1_augment_229 : decode cX1_augment 229 = .ok (.aload_n 0, 1) := dk_42 (dk_at dksX1_augment_9 14 rfl rfl)
theorem dX1_augment_230 : decode cX1_augment 230 = .ok (.getfield 48, 3) := dk_180 0 48 (dk_at dksX1_augment_9 15 rfl rfl)
theorem dX1_augment_233 : decode cX1_augment 233 = .ok (.iload 6, 2) := dk_21 6 (dk_at dksX1_augment_9 18 rfl rfl)
theorem dX1_augment_235 : decode cX1_augment 235 = .ok (.iload 5, 2) := dk_21 5 (dk_at dksX1_augment_9 20 rfl rfl)
theorem dX1_augment_237 : decode cX1_augment 237 = .ok (.iastore, 1) := dk_79 (dk_at dksX1_augment_9 22 rfl rfl)
theorem dX1_augment_238 : decode cX1_augment 238 = .ok (.iload 7, 2) := dk_21 7 (dk_at dksX1_augment_10 0 rfl rfl)
theorem dX1_augment_240 : decode cX1_augment 240 = .ok (.istore 5, 2) := dk_54 5 (dk_at dksX1_augment_10 2 rfl rfl)
theorem dX1_augment_242 : decode cX1_augment 242 = .ok (.aload_n 0, 1) := dk_42 (dk_at dksX1_augment_10 4 rfl rfl)
theorem dX1_augment_243 : decode cX1_augment 243 = .ok (.getfield 54, 3) := dk_180 0 54 (dk_at dksX1_augment_10 5 rfl rfl)
theorem dX1_augment_246 : decode cX1_augment 246 = .ok (.iload 5, 2) := dk_21 5 (dk_at dksX1_augment_10 8 rfl rfl)
theorem dX1_augment_248 : decode cX1_augment 248 = .ok (.iaload, 1) := dk_46 (dk_at dksX1_augment_10 10 rfl rfl)
theorem dX1_augment_249 : decode cX1_augment 249 = .ok (.istore 6, 2) := dk_54 6 (dk_at dksX1_augment_10 11 rfl rfl)
theorem dX1_augment_251 : decode cX1_augment 251 = .ok (.goto (-46), 3) := dk_167 255 210 (dk_at dksX1_augment_10 13 rfl rfl)
theorem dX1_augment_254 : decode cX1_augment 254 = .ok (.aload_n 0, 1) := dk_42 (dk_at dksX1_augment_10 16 rfl rfl)
theorem dX1_augment_255 : decode cX1_augment 255 = .ok (.getfield 45, 3) := dk_180 0 45 (dk_at dksX1_augment_10 17 rfl rfl)
theorem dX1_augment_258 : decode cX1_augment 258 = .ok (.iload 5, 2) := dk_21 5 (dk_at dksX1_augment_10 20 rfl rfl)
theorem dX1_augment_260 : decode cX1_augment 260 = .ok (.iload_n 1, 1) := dk_27 (dk_at dksX1_augment_10 22 rfl rfl)
theorem dX1_augment_261 : decode cX1_augment 261 = .ok (.iastore, 1) := dk_79 (dk_at dksX1_augment_10 23 rfl rfl)
theorem dX1_augment_262 : decode cX1_augment 262 = .ok (.aload_n 0, 1) := dk_42 (dk_at dksX1_augment_11 0 rfl rfl)
theorem dX1_augment_263 : decode cX1_augment 263 = .ok (.getfield 48, 3) := dk_180 0 48 (dk_at dksX1_augment_11 1 rfl rfl)
theorem dX1_augment_266 : decode cX1_augment 266 = .ok (.iload_n 1, 1) := dk_27 (dk_at dksX1_augment_11 4 rfl rfl)
theorem dX1_augment_267 : decode cX1_augment 267 = .ok (.iload 5, 2) := dk_21 5 (dk_at dksX1_augment_11 5 rfl rfl)
theorem dX1_augment_269 : decode cX1_augment 269 = .ok (.iastore, 1) := dk_79 (dk_at dksX1_augment_11 7 rfl rfl)
theorem dX1_augment_270 : decode cX1_augment 270 = .ok (.return_, 1) := dk_177 (dk_at dksX1_augment_11 8 rfl rfl)
abbrev cX1_beginPaths : ByteArray := prog_1_method_40_code
def yX1_beginPaths : MethodName := ⟨RX1, "beginPaths", "()V"⟩
def dkwX1_beginPaths_1 : List UInt8 := [180, 0, 51, 27, 18, 255, 79, 42, 180, 0, 57, 27, 3, 84, 132, 1, 1, 167, 255, 230, 177]
abbrev dktX1_beginPaths_1 : List UInt8 := dkwX1_beginPaths_1 ++ []
def dkwX1_beginPaths_0 : List UInt8 := [42, 180, 0, 69, 182, 0, 157, 42, 3, 181, 0, 244, 3, 60, 27, 42, 180, 0, 237, 162, 0, 24, 42]
abbrev dktX1_beginPaths_0 : List UInt8 := dkwX1_beginPaths_0 ++ dktX1_beginPaths_1
theorem dksX1_beginPaths_0 : cX1_beginPaths.data.toList.drop 0 = dktX1_beginPaths_0 := by decide +kernel
theorem dksX1_beginPaths_1 : cX1_beginPaths.data.toList.drop 23 = dktX1_beginPaths_1 := dk_seg dksX1_beginPaths_0 23 rfl rfl
theorem dX1_beginPaths_0 : decode cX1_beginPaths 0 = .ok (.aload_n 0, 1) := dk_42 (dk_at dksX1_beginPaths_0 0 rfl rfl)
theorem dX1_beginPaths_1 : decode cX1_beginPaths 1 = .ok (.getfield 69, 3) := dk_180 0 69 (dk_at dksX1_beginPaths_0 1 rfl rfl)
theorem dX1_beginPaths_4 : decode cX1_beginPaths 4 = .ok (.invokevirtual 157, 3) := dk_182 0 157 (dk_at dksX1_beginPaths_0 4 rfl rfl)
theorem dX1_beginPaths_7 : decode cX1_beginPaths 7 = .ok (.aload_n 0, 1) := dk_42 (dk_at dksX1_beginPaths_0 7 rfl rfl)
theorem dX1_beginPaths_8 : decode cX1_beginPaths 8 = .ok (.iconst 0, 1) := dk_3 (dk_at dksX1_beginPaths_0 8 rfl rfl)
theorem dX1_beginPaths_9 : decode cX1_beginPaths 9 = .ok (.putfield 244, 3) := dk_181 0 244 (dk_at dksX1_beginPaths_0 9 rfl rfl)
theorem dX1_beginPaths_12 : decode cX1_beginPaths 12 = .ok (.iconst 0, 1) := dk_3 (dk_at dksX1_beginPaths_0 12 rfl rfl)
theorem dX1_beginPaths_13 : decode cX1_beginPaths 13 = .ok (.istore_n 1, 1) := dk_60 (dk_at dksX1_beginPaths_0 13 rfl rfl)
theorem dX1_beginPaths_14 : decode cX1_beginPaths 14 = .ok (.iload_n 1, 1) := dk_27 (dk_at dksX1_beginPaths_0 14 rfl rfl)
theorem dX1_beginPaths_15 : decode cX1_beginPaths 15 = .ok (.aload_n 0, 1) := dk_42 (dk_at dksX1_beginPaths_0 15 rfl rfl)
theorem dX1_beginPaths_16 : decode cX1_beginPaths 16 = .ok (.getfield 237, 3) := dk_180 0 237 (dk_at dksX1_beginPaths_0 16 rfl rfl)
theorem dX1_beginPaths_19 : decode cX1_beginPaths 19 = .ok (.if_icmp .ge 24, 3) := dk_162 0 24 (dk_at dksX1_beginPaths_0 19 rfl rfl)
theorem dX1_beginPaths_22 : decode cX1_beginPaths 22 = .ok (.aload_n 0, 1) := dk_42 (dk_at dksX1_beginPaths_0 22 rfl rfl)
theorem dX1_beginPaths_23 : decode cX1_beginPaths 23 = .ok (.getfield 51, 3) := dk_180 0 51 (dk_at dksX1_beginPaths_1 0 rfl rfl)
theorem dX1_beginPaths_26 : decode cX1_beginPaths 26 = .ok (.iload_n 1, 1) := dk_27 (dk_at dksX1_beginPaths_1 3 rfl rfl)
theorem dX1_beginPaths_27 : decode cX1_beginPaths 27 = .ok (.ldc 255, 2) := dk_18 255 (dk_at dksX1_beginPaths_1 4 rfl rfl)
theorem dX1_beginPaths_29 : decode cX1_beginPaths 29 = .ok (.iastore, 1) := dk_79 (dk_at dksX1_beginPaths_1 6 rfl rfl)
theorem dX1_beginPaths_30 : decode cX1_beginPaths 30 = .ok (.aload_n 0, 1) := dk_42 (dk_at dksX1_beginPaths_1 7 rfl rfl)
theorem dX1_beginPaths_31 : decode cX1_beginPaths 31 = .ok (.getfield 57, 3) := dk_180 0 57 (dk_at dksX1_beginPaths_1 8 rfl rfl)
theorem dX1_beginPaths_34 : decode cX1_beginPaths 34 = .ok (.iload_n 1, 1) := dk_27 (dk_at dksX1_beginPaths_1 11 rfl rfl)
theorem dX1_beginPaths_35 : decode cX1_beginPaths 35 = .ok (.iconst 0, 1) := dk_3 (dk_at dksX1_beginPaths_1 12 rfl rfl)
theorem dX1_beginPaths_36 : decode cX1_beginPaths 36 = .ok (.bastore, 1) := dk_84 (dk_at dksX1_beginPaths_1 13 rfl rfl)
theorem dX1_beginPaths_37 : decode cX1_beginPaths 37 = .ok (.iinc 1 1, 3) := dk_132 1 1 (dk_at dksX1_beginPaths_1 14 rfl rfl)
theorem dX1_beginPaths_40 : decode cX1_beginPaths 40 = .ok (.goto (-26), 3) := dk_167 255 230 (dk_at dksX1_beginPaths_1 17 rfl rfl)
theorem dX1_beginPaths_43 : decode cX1_beginPaths 43 = .ok (.return_, 1) := dk_177 (dk_at dksX1_beginPaths_1 20 rfl rfl)
abbrev cX1_relaxColumns : ByteArray := prog_1_method_42_code
def yX1_relaxColumns : MethodName := ⟨RX1, "relaxColumns", "(II)V"⟩
def dkwX1_relaxColumns_2 : List UInt8 := [21, 4, 29, 182, 1, 9, 132, 3, 1, 167, 255, 201, 177]
abbrev dktX1_relaxColumns_2 : List UInt8 := dkwX1_relaxColumns_2 ++ []
def dkwX1_relaxColumns_1 : List UInt8 := [29, 51, 154, 0, 28, 21, 4, 42, 180, 0, 51, 29, 46, 162, 0, 17, 42, 180, 0, 54, 29, 27, 79, 42]
abbrev dktX1_relaxColumns_1 : List UInt8 := dkwX1_relaxColumns_1 ++ dktX1_relaxColumns_2
def dkwX1_relaxColumns_0 : List UInt8 := [3, 62, 29, 42, 180, 0, 237, 162, 0, 53, 28, 42, 27, 29, 182, 1, 6, 96, 54, 4, 42, 180, 0, 57]
abbrev dktX1_relaxColumns_0 : List UInt8 := dkwX1_relaxColumns_0 ++ dktX1_relaxColumns_1
theorem dksX1_relaxColumns_0 : cX1_relaxColumns.data.toList.drop 0 = dktX1_relaxColumns_0 := by decide +kernel
theorem dksX1_relaxColumns_1 : cX1_relaxColumns.data.toList.drop 24 = dktX1_relaxColumns_1 := dk_seg dksX1_relaxColumns_0 24 rfl rfl
theorem dksX1_relaxColumns_2 : cX1_relaxColumns.data.toList.drop 48 = dktX1_relaxColumns_2 := dk_seg dksX1_relaxColumns_1 24 rfl rfl
theorem dX1_relaxColumns_0 : decode cX1_relaxColumns 0 = .ok (.iconst 0, 1) := dk_3 (dk_at dksX1_relaxColumns_0 0 rfl rfl)
theorem dX1_relaxColumns_1 : decode cX1_relaxColumns 1 = .ok (.istore_n 3, 1) := dk_62 (dk_at dksX1_relaxColumns_0 1 rfl rfl)
theorem dX1_relaxColumns_2 : decode cX1_relaxColumns 2 = .ok (.iload_n 3, 1) := dk_29 (dk_at dksX1_relaxColumns_0 2 rfl rfl)
theorem dX1_relaxColumns_3 : decode cX1_relaxColumns 3 = .ok (.aload_n 0, 1) := dk_42 (dk_at dksX1_relaxColumns_0 3 rfl rfl)
theorem dX1_relaxColumns_4 : decode cX1_relaxColumns 4 = .ok (.getfield 237, 3) := dk_180 0 237 (dk_at dksX1_relaxColumns_0 4 rfl rfl)
theorem dX1_relaxColumns_7 : decode cX1_relaxColumns 7 = .ok (.if_icmp .ge 53, 3) := dk_162 0 53 (dk_at dksX1_relaxColumns_0 7 rfl rfl)
theorem dX1_relaxColumns_10 : decode cX1_relaxColumns 10 = .ok (.iload_n 2, 1) := dk_28 (dk_at dksX1_relaxColumns_0 10 rfl rfl)
theorem dX1_relaxColumns_11 : decode cX1_relaxColumns 11 = .ok (.aload_n 0, 1) := dk_42 (dk_at dksX1_relaxColumns_0 11 rfl rfl)
theorem dX1_relaxColumns_12 : decode cX1_relaxColumns 12 = .ok (.iload_n 1, 1) := dk_27 (dk_at dksX1_relaxColumns_0 12 rfl rfl)
theorem dX1_relaxColumns_13 : decode cX1_relaxColumns 13 = .ok (.iload_n 3, 1) := dk_29 (dk_at dksX1_relaxColumns_0 13 rfl rfl)
theorem dX1_relaxColumns_14 : decode cX1_relaxColumns 14 = .ok (.invokevirtual 262, 3) := dk_182 1 6 (dk_at dksX1_relaxColumns_0 14 rfl rfl)
theorem dX1_relaxColumns_17 : decode cX1_relaxColumns 17 = .ok (.iadd, 1) := dk_96 (dk_at dksX1_relaxColumns_0 17 rfl rfl)
theorem dX1_relaxColumns_18 : decode cX1_relaxColumns 18 = .ok (.istore 4, 2) := dk_54 4 (dk_at dksX1_relaxColumns_0 18 rfl rfl)
theorem dX1_relaxColumns_20 : decode cX1_relaxColumns 20 = .ok (.aload_n 0, 1) := dk_42 (dk_at dksX1_relaxColumns_0 20 rfl rfl)
theorem dX1_relaxColumns_21 : decode cX1_relaxColumns 21 = .ok (.getfield 57, 3) := dk_180 0 57 (dk_at dksX1_relaxColumns_0 21 rfl rfl)
theorem dX1_relaxColumns_24 : decode cX1_relaxColumns 24 = .ok (.iload_n 3, 1) := dk_29 (dk_at dksX1_relaxColumns_1 0 rfl rfl)
theorem dX1_relaxColumns_25 : decode cX1_relaxColumns 25 = .ok (.baload, 1) := dk_51 (dk_at dksX1_relaxColumns_1 1 rfl rfl)
theorem dX1_relaxColumns_26 : decode cX1_relaxColumns 26 = .ok (.ifCond .ne 28, 3) := dk_154 0 28 (dk_at dksX1_relaxColumns_1 2 rfl rfl)
theorem dX1_relaxColumns_29 : decode cX1_relaxColumns 29 = .ok (.iload 4, 2) := dk_21 4 (dk_at dksX1_relaxColumns_1 5 rfl rfl)
theorem dX1_relaxColumns_31 : decode cX1_relaxColumns 31 = .ok (.aload_n 0, 1) := dk_42 (dk_at dksX1_relaxColumns_1 7 rfl rfl)
theorem dX1_relaxColumns_32 : decode cX1_relaxColumns 32 = .ok (.getfield 51, 3) := dk_180 0 51 (dk_at dksX1_relaxColumns_1 8 rfl rfl)
theorem dX1_relaxColumns_35 : decode cX1_relaxColumns 35 = .ok (.iload_n 3, 1) := dk_29 (dk_at dksX1_relaxColumns_1 11 rfl rfl)
theorem dX1_relaxColumns_36 : decode cX1_relaxColumns 36 = .ok (.iaload, 1) := dk_46 (dk_at dksX1_relaxColumns_1 12 rfl rfl)
theorem dX1_relaxColumns_37 : decode cX1_relaxColumns 37 = .ok (.if_icmp .ge 17, 3) := dk_162 0 17 (dk_at dksX1_relaxColumns_1 13 rfl rfl)
theorem dX1_relaxColumns_40 : decode cX1_relaxColumns 40 = .ok (.aload_n 0, 1) := dk_42 (dk_at dksX1_relaxColumns_1 16 rfl rfl)
theorem dX1_relaxColumns_41 : decode cX1_relaxColumns 41 = .ok (.getfield 54, 3) := dk_180 0 54 (dk_at dksX1_relaxColumns_1 17 rfl rfl)
theorem dX1_relaxColumns_44 : decode cX1_relaxColumns 44 = .ok (.iload_n 3, 1) := dk_29 (dk_at dksX1_relaxColumns_1 20 rfl rfl)
theorem dX1_relaxColumns_45 : decode cX1_relaxColumns 45 = .ok (.iload_n 1, 1) := dk_27 (dk_at dksX1_relaxColumns_1 21 rfl rfl)
theorem dX1_relaxColumns_46 : decode cX1_relaxColumns 46 = .ok (.iastore, 1) := dk_79 (dk_at dksX1_relaxColumns_1 22 rfl rfl)
theorem dX1_relaxColumns_47 : decode cX1_relaxColumns 47 = .ok (.aload_n 0, 1) := dk_42 (dk_at dksX1_relaxColumns_1 23 rfl rfl)
theorem dX1_relaxColumns_48 : decode cX1_relaxColumns 48 = .ok (.iload 4, 2) := dk_21 4 (dk_at dksX1_relaxColumns_2 0 rfl rfl)
theorem dX1_relaxColumns_50 : decode cX1_relaxColumns 50 = .ok (.iload_n 3, 1) := dk_29 (dk_at dksX1_relaxColumns_2 2 rfl rfl)
theorem dX1_relaxColumns_51 : decode cX1_relaxColumns 51 = .ok (.invokevirtual 265, 3) := dk_182 1 9 (dk_at dksX1_relaxColumns_2 3 rfl rfl)
theorem dX1_relaxColumns_54 : decode cX1_relaxColumns 54 = .ok (.iinc 3 1, 3) := dk_132 3 1 (dk_at dksX1_relaxColumns_2 6 rfl rfl)
theorem dX1_relaxColumns_57 : decode cX1_relaxColumns 57 = .ok (.goto (-55), 3) := dk_167 255 201 (dk_at dksX1_relaxColumns_2 9 rfl rfl)
theorem dX1_relaxColumns_60 : decode cX1_relaxColumns 60 = .ok (.return_, 1) := dk_177 (dk_at dksX1_relaxColumns_2 12 rfl rfl)
abbrev cX1_reducedHere : ByteArray := prog_1_method_38_code
def yX1_reducedHere : MethodName := ⟨RX1, "reducedHere", "(II)I"⟩
def dkwX1_reducedHere_0 : List UInt8 := [42, 180, 0, 35, 27, 50, 28, 46, 42, 180, 0, 38, 27, 46, 100, 42, 180, 0, 42, 28, 46, 100, 172]
abbrev dktX1_reducedHere_0 : List UInt8 := dkwX1_reducedHere_0 ++ []
theorem dksX1_reducedHere_0 : cX1_reducedHere.data.toList.drop 0 = dktX1_reducedHere_0 := by decide +kernel
theorem dX1_reducedHere_0 : decode cX1_reducedHere 0 = .ok (.aload_n 0, 1) := dk_42 (dk_at dksX1_reducedHere_0 0 rfl rfl)
theorem dX1_reducedHere_1 : decode cX1_reducedHere 1 = .ok (.getfield 35, 3) := dk_180 0 35 (dk_at dksX1_reducedHere_0 1 rfl rfl)
theorem dX1_reducedHere_4 : decode cX1_reducedHere 4 = .ok (.iload_n 1, 1) := dk_27 (dk_at dksX1_reducedHere_0 4 rfl rfl)
theorem dX1_reducedHere_5 : decode cX1_reducedHere 5 = .ok (.aaload, 1) := dk_50 (dk_at dksX1_reducedHere_0 5 rfl rfl)
theorem dX1_reducedHere_6 : decode cX1_reducedHere 6 = .ok (.iload_n 2, 1) := dk_28 (dk_at dksX1_reducedHere_0 6 rfl rfl)
theorem dX1_reducedHere_7 : decode cX1_reducedHere 7 = .ok (.iaload, 1) := dk_46 (dk_at dksX1_reducedHere_0 7 rfl rfl)
theorem dX1_reducedHere_8 : decode cX1_reducedHere 8 = .ok (.aload_n 0, 1) := dk_42 (dk_at dksX1_reducedHere_0 8 rfl rfl)
theorem dX1_reducedHere_9 : decode cX1_reducedHere 9 = .ok (.getfield 38, 3) := dk_180 0 38 (dk_at dksX1_reducedHere_0 9 rfl rfl)
theorem dX1_reducedHere_12 : decode cX1_reducedHere 12 = .ok (.iload_n 1, 1) := dk_27 (dk_at dksX1_reducedHere_0 12 rfl rfl)
theorem dX1_reducedHere_13 : decode cX1_reducedHere 13 = .ok (.iaload, 1) := dk_46 (dk_at dksX1_reducedHere_0 13 rfl rfl)
theorem dX1_reducedHere_14 : decode cX1_reducedHere 14 = .ok (.isub, 1) := dk_100 (dk_at dksX1_reducedHere_0 14 rfl rfl)
theorem dX1_reducedHere_15 : decode cX1_reducedHere 15 = .ok (.aload_n 0, 1) := dk_42 (dk_at dksX1_reducedHere_0 15 rfl rfl)
theorem dX1_reducedHere_16 : decode cX1_reducedHere 16 = .ok (.getfield 42, 3) := dk_180 0 42 (dk_at dksX1_reducedHere_0 16 rfl rfl)
theorem dX1_reducedHere_19 : decode cX1_reducedHere 19 = .ok (.iload_n 2, 1) := dk_28 (dk_at dksX1_reducedHere_0 19 rfl rfl)
theorem dX1_reducedHere_20 : decode cX1_reducedHere 20 = .ok (.iaload, 1) := dk_46 (dk_at dksX1_reducedHere_0 20 rfl rfl)
theorem dX1_reducedHere_21 : decode cX1_reducedHere 21 = .ok (.isub, 1) := dk_100 (dk_at dksX1_reducedHere_0 21 rfl rfl)
theorem dX1_reducedHere_22 : decode cX1_reducedHere 22 = .ok (.ireturn, 1) := dk_172 (dk_at dksX1_reducedHere_0 22 rfl rfl)
abbrev cX1_offer : ByteArray := prog_1_method_39_code
def yX1_offer : MethodName := ⟨RX1, "offer", "(II)V"⟩
def dkwX1_offer_2 : List UInt8 := [177]
abbrev dktX1_offer_2 : List UInt8 := dkwX1_offer_2 ++ []
def dkwX1_offer_1 : List UInt8 := [181, 0, 244, 42, 180, 0, 69, 187, 0, 247, 89, 27, 42, 180, 0, 244, 28, 183, 0, 249, 182, 0, 252, 87]
abbrev dktX1_offer_1 : List UInt8 := dkwX1_offer_1 ++ dktX1_offer_2
def dkwX1_offer_0 : List UInt8 := [27, 42, 180, 0, 51, 28, 46, 162, 0, 41, 42, 180, 0, 51, 28, 27, 79, 42, 89, 180, 0, 244, 4, 96]
abbrev dktX1_offer_0 : List UInt8 := dkwX1_offer_0 ++ dktX1_offer_1
theorem dksX1_offer_0 : cX1_offer.data.toList.drop 0 = dktX1_offer_0 := by decide +kernel
theorem dksX1_offer_1 : cX1_offer.data.toList.drop 24 = dktX1_offer_1 := dk_seg dksX1_offer_0 24 rfl rfl
theorem dksX1_offer_2 : cX1_offer.data.toList.drop 48 = dktX1_offer_2 := dk_seg dksX1_offer_1 24 rfl rfl
theorem dX1_offer_0 : decode cX1_offer 0 = .ok (.iload_n 1, 1) := dk_27 (dk_at dksX1_offer_0 0 rfl rfl)
theorem dX1_offer_1 : decode cX1_offer 1 = .ok (.aload_n 0, 1) := dk_42 (dk_at dksX1_offer_0 1 rfl rfl)
theorem dX1_offer_2 : decode cX1_offer 2 = .ok (.getfield 51, 3) := dk_180 0 51 (dk_at dksX1_offer_0 2 rfl rfl)
theorem dX1_offer_5 : decode cX1_offer 5 = .ok (.iload_n 2, 1) := dk_28 (dk_at dksX1_offer_0 5 rfl rfl)
theorem dX1_offer_6 : decode cX1_offer 6 = .ok (.iaload, 1) := dk_46 (dk_at dksX1_offer_0 6 rfl rfl)
theorem dX1_offer_7 : decode cX1_offer 7 = .ok (.if_icmp .ge 41, 3) := dk_162 0 41 (dk_at dksX1_offer_0 7 rfl rfl)
theorem dX1_offer_10 : decode cX1_offer 10 = .ok (.aload_n 0, 1) := dk_42 (dk_at dksX1_offer_0 10 rfl rfl)
theorem dX1_offer_11 : decode cX1_offer 11 = .ok (.getfield 51, 3) := dk_180 0 51 (dk_at dksX1_offer_0 11 rfl rfl)
theorem dX1_offer_14 : decode cX1_offer 14 = .ok (.iload_n 2, 1) := dk_28 (dk_at dksX1_offer_0 14 rfl rfl)
theorem dX1_offer_15 : decode cX1_offer 15 = .ok (.iload_n 1, 1) := dk_27 (dk_at dksX1_offer_0 15 rfl rfl)
theorem dX1_offer_16 : decode cX1_offer 16 = .ok (.iastore, 1) := dk_79 (dk_at dksX1_offer_0 16 rfl rfl)
theorem dX1_offer_17 : decode cX1_offer 17 = .ok (.aload_n 0, 1) := dk_42 (dk_at dksX1_offer_0 17 rfl rfl)
theorem dX1_offer_18 : decode cX1_offer 18 = .ok (.dup, 1) := dk_89 (dk_at dksX1_offer_0 18 rfl rfl)
theorem dX1_offer_19 : decode cX1_offer 19 = .ok (.getfield 244, 3) := dk_180 0 244 (dk_at dksX1_offer_0 19 rfl rfl)
theorem dX1_offer_22 : decode cX1_offer 22 = .ok (.iconst 1, 1) := dk_4 (dk_at dksX1_offer_0 22 rfl rfl)
theorem dX1_offer_23 : decode cX1_offer 23 = .ok (.iadd, 1) := dk_96 (dk_at dksX1_offer_0 23 rfl rfl)
theorem dX1_offer_24 : decode cX1_offer 24 = .ok (.putfield 244, 3) := dk_181 0 244 (dk_at dksX1_offer_1 0 rfl rfl)
theorem dX1_offer_27 : decode cX1_offer 27 = .ok (.aload_n 0, 1) := dk_42 (dk_at dksX1_offer_1 3 rfl rfl)
theorem dX1_offer_28 : decode cX1_offer 28 = .ok (.getfield 69, 3) := dk_180 0 69 (dk_at dksX1_offer_1 4 rfl rfl)
theorem dX1_offer_31 : decode cX1_offer 31 = .ok (.new 247, 3) := dk_187 0 247 (dk_at dksX1_offer_1 7 rfl rfl)
theorem dX1_offer_34 : decode cX1_offer 34 = .ok (.dup, 1) := dk_89 (dk_at dksX1_offer_1 10 rfl rfl)
theorem dX1_offer_35 : decode cX1_offer 35 = .ok (.iload_n 1, 1) := dk_27 (dk_at dksX1_offer_1 11 rfl rfl)
theorem dX1_offer_36 : decode cX1_offer 36 = .ok (.aload_n 0, 1) := dk_42 (dk_at dksX1_offer_1 12 rfl rfl)
theorem dX1_offer_37 : decode cX1_offer 37 = .ok (.getfield 244, 3) := dk_180 0 244 (dk_at dksX1_offer_1 13 rfl rfl)
theorem dX1_offer_40 : decode cX1_offer 40 = .ok (.iload_n 2, 1) := dk_28 (dk_at dksX1_offer_1 16 rfl rfl)
theorem dX1_offer_41 : decode cX1_offer 41 = .ok (.invokespecial 249, 3) := dk_183 0 249 (dk_at dksX1_offer_1 17 rfl rfl)
theorem dX1_offer_44 : decode cX1_offer 44 = .ok (.invokevirtual 252, 3) := dk_182 0 252 (dk_at dksX1_offer_1 20 rfl rfl)
theorem dX1_offer_47 : decode cX1_offer 47 = .ok (.pop, 1) := dk_87 (dk_at dksX1_offer_1 23 rfl rfl)
theorem dX1_offer_48 : decode cX1_offer 48 = .ok (.return_, 1) := dk_177 (dk_at dksX1_offer_2 0 rfl rfl)
abbrev cX1_settleNext : ByteArray := prog_1_method_41_code
def yX1_settleNext : MethodName := ⟨RX1, "settleNext", "()I"⟩
def dkwX1_settleNext_2 : List UInt8 := [172]
abbrev dktX1_settleNext_2 : List UInt8 := dkwX1_settleNext_2 ++ []
def dkwX1_settleNext_1 : List UInt8 := [180, 0, 69, 182, 1, 0, 192, 0, 247, 180, 1, 3, 60, 167, 255, 233, 42, 180, 0, 57, 27, 4, 84, 27]
abbrev dktX1_settleNext_1 : List UInt8 := dkwX1_settleNext_1 ++ dktX1_settleNext_2
def dkwX1_settleNext_0 : List UInt8 := [42, 180, 0, 69, 182, 1, 0, 192, 0, 247, 180, 1, 3, 60, 42, 180, 0, 57, 27, 51, 153, 0, 20, 42]
abbrev dktX1_settleNext_0 : List UInt8 := dkwX1_settleNext_0 ++ dktX1_settleNext_1
theorem dksX1_settleNext_0 : cX1_settleNext.data.toList.drop 0 = dktX1_settleNext_0 := by decide +kernel
theorem dksX1_settleNext_1 : cX1_settleNext.data.toList.drop 24 = dktX1_settleNext_1 := dk_seg dksX1_settleNext_0 24 rfl rfl
theorem dksX1_settleNext_2 : cX1_settleNext.data.toList.drop 48 = dktX1_settleNext_2 := dk_seg dksX1_settleNext_1 24 rfl rfl
theorem dX1_settleNext_0 : decode cX1_settleNext 0 = .ok (.aload_n 0, 1) := dk_42 (dk_at dksX1_settleNext_0 0 rfl rfl)
theorem dX1_settleNext_1 : decode cX1_settleNext 1 = .ok (.getfield 69, 3) := dk_180 0 69 (dk_at dksX1_settleNext_0 1 rfl rfl)
theorem dX1_settleNext_4 : decode cX1_settleNext 4 = .ok (.invokevirtual 256, 3) := dk_182 1 0 (dk_at dksX1_settleNext_0 4 rfl rfl)
theorem dX1_settleNext_7 : decode cX1_settleNext 7 = .ok (.checkcast 247, 3) := dk_192 0 247 (dk_at dksX1_settleNext_0 7 rfl rfl)
theorem dX1_settleNext_10 : decode cX1_settleNext 10 = .ok (.getfield 259, 3) := dk_180 1 3 (dk_at dksX1_settleNext_0 10 rfl rfl)
theorem dX1_settleNext_13 : decode cX1_settleNext 13 = .ok (.istore_n 1, 1) := dk_60 (dk_at dksX1_settleNext_0 13 rfl rfl)
theorem dX1_settleNext_14 : decode cX1_settleNext 14 = .ok (.aload_n 0, 1) := dk_42 (dk_at dksX1_settleNext_0 14 rfl rfl)
theorem dX1_settleNext_15 : decode cX1_settleNext 15 = .ok (.getfield 57, 3) := dk_180 0 57 (dk_at dksX1_settleNext_0 15 rfl rfl)
theorem dX1_settleNext_18 : decode cX1_settleNext 18 = .ok (.iload_n 1, 1) := dk_27 (dk_at dksX1_settleNext_0 18 rfl rfl)
theorem dX1_settleNext_19 : decode cX1_settleNext 19 = .ok (.baload, 1) := dk_51 (dk_at dksX1_settleNext_0 19 rfl rfl)
theorem dX1_settleNext_20 : decode cX1_settleNext 20 = .ok (.ifCond .eq 20, 3) := dk_153 0 20 (dk_at dksX1_settleNext_0 20 rfl rfl)
theorem dX1_settleNext_23 : decode cX1_settleNext 23 = .ok (.aload_n 0, 1) := dk_42 (dk_at dksX1_settleNext_0 23 rfl rfl)
theorem dX1_settleNext_24 : decode cX1_settleNext 24 = .ok (.getfield 69, 3) := dk_180 0 69 (dk_at dksX1_settleNext_1 0 rfl rfl)
theorem dX1_settleNext_27 : decode cX1_settleNext 27 = .ok (.invokevirtual 256, 3) := dk_182 1 0 (dk_at dksX1_settleNext_1 3 rfl rfl)
theorem dX1_settleNext_30 : decode cX1_settleNext 30 = .ok (.checkcast 247, 3) := dk_192 0 247 (dk_at dksX1_settleNext_1 6 rfl rfl)
theorem dX1_settleNext_33 : decode cX1_settleNext 33 = .ok (.getfield 259, 3) := dk_180 1 3 (dk_at dksX1_settleNext_1 9 rfl rfl)
theorem dX1_settleNext_36 : decode cX1_settleNext 36 = .ok (.istore_n 1, 1) := dk_60 (dk_at dksX1_settleNext_1 12 rfl rfl)
theorem dX1_settleNext_37 : decode cX1_settleNext 37 = .ok (.goto (-23), 3) := dk_167 255 233 (dk_at dksX1_settleNext_1 13 rfl rfl)
theorem dX1_settleNext_40 : decode cX1_settleNext 40 = .ok (.aload_n 0, 1) := dk_42 (dk_at dksX1_settleNext_1 16 rfl rfl)
theorem dX1_settleNext_41 : decode cX1_settleNext 41 = .ok (.getfield 57, 3) := dk_180 0 57 (dk_at dksX1_settleNext_1 17 rfl rfl)
theorem dX1_settleNext_44 : decode cX1_settleNext 44 = .ok (.iload_n 1, 1) := dk_27 (dk_at dksX1_settleNext_1 20 rfl rfl)
theorem dX1_settleNext_45 : decode cX1_settleNext 45 = .ok (.iconst 1, 1) := dk_4 (dk_at dksX1_settleNext_1 21 rfl rfl)
theorem dX1_settleNext_46 : decode cX1_settleNext 46 = .ok (.bastore, 1) := dk_84 (dk_at dksX1_settleNext_1 22 rfl rfl)
theorem dX1_settleNext_47 : decode cX1_settleNext 47 = .ok (.iload_n 1, 1) := dk_27 (dk_at dksX1_settleNext_1 23 rfl rfl)
theorem dX1_settleNext_48 : decode cX1_settleNext 48 = .ok (.ireturn, 1) := dk_172 (dk_at dksX1_settleNext_2 0 rfl rfl)
abbrev cX1_savedMinimum : ByteArray := prog_1_method_49_code
def yX1_savedMinimum : MethodName := ⟨RX1, "savedMinimum", "()I"⟩
def dkwX1_savedMinimum_0 : List UInt8 := [42, 42, 180, 0, 30, 42, 180, 0, 24, 42, 180, 0, 27, 182, 0, 240, 42, 182, 1, 30, 172]
abbrev dktX1_savedMinimum_0 : List UInt8 := dkwX1_savedMinimum_0 ++ []
theorem dksX1_savedMinimum_0 : cX1_savedMinimum.data.toList.drop 0 = dktX1_savedMinimum_0 := by decide +kernel
theorem dX1_savedMinimum_0 : decode cX1_savedMinimum 0 = .ok (.aload_n 0, 1) := dk_42 (dk_at dksX1_savedMinimum_0 0 rfl rfl)
theorem dX1_savedMinimum_1 : decode cX1_savedMinimum 1 = .ok (.aload_n 0, 1) := dk_42 (dk_at dksX1_savedMinimum_0 1 rfl rfl)
theorem dX1_savedMinimum_2 : decode cX1_savedMinimum 2 = .ok (.getfield 30, 3) := dk_180 0 30 (dk_at dksX1_savedMinimum_0 2 rfl rfl)
theorem dX1_savedMinimum_5 : decode cX1_savedMinimum 5 = .ok (.aload_n 0, 1) := dk_42 (dk_at dksX1_savedMinimum_0 5 rfl rfl)
theorem dX1_savedMinimum_6 : decode cX1_savedMinimum 6 = .ok (.getfield 24, 3) := dk_180 0 24 (dk_at dksX1_savedMinimum_0 6 rfl rfl)
theorem dX1_savedMinimum_9 : decode cX1_savedMinimum 9 = .ok (.aload_n 0, 1) := dk_42 (dk_at dksX1_savedMinimum_0 9 rfl rfl)
theorem dX1_savedMinimum_10 : decode cX1_savedMinimum 10 = .ok (.getfield 27, 3) := dk_180 0 27 (dk_at dksX1_savedMinimum_0 10 rfl rfl)
theorem dX1_savedMinimum_13 : decode cX1_savedMinimum 13 = .ok (.invokevirtual 240, 3) := dk_182 0 240 (dk_at dksX1_savedMinimum_0 13 rfl rfl)
theorem dX1_savedMinimum_16 : decode cX1_savedMinimum 16 = .ok (.aload_n 0, 1) := dk_42 (dk_at dksX1_savedMinimum_0 16 rfl rfl)
theorem dX1_savedMinimum_17 : decode cX1_savedMinimum 17 = .ok (.invokevirtual 286, 3) := dk_182 1 30 (dk_at dksX1_savedMinimum_0 17 rfl rfl)
theorem dX1_savedMinimum_20 : decode cX1_savedMinimum 20 = .ok (.ireturn, 1) := dk_172 (dk_at dksX1_savedMinimum_0 20 rfl rfl)
abbrev cX1_optimalCount : ByteArray := prog_1_method_51_code
def yX1_optimalCount : MethodName := ⟨RX1, "optimalCount", "()I"⟩
def dkwX1_optimalCount_0 : List UInt8 := [42, 182, 1, 28, 42, 182, 1, 30, 87, 42, 182, 1, 33, 42, 180, 0, 73, 3, 46, 172]
abbrev dktX1_optimalCount_0 : List UInt8 := dkwX1_optimalCount_0 ++ []
theorem dksX1_optimalCount_0 : cX1_optimalCount.data.toList.drop 0 = dktX1_optimalCount_0 := by decide +kernel
theorem dX1_optimalCount_0 : decode cX1_optimalCount 0 = .ok (.aload_n 0, 1) := dk_42 (dk_at dksX1_optimalCount_0 0 rfl rfl)
theorem dX1_optimalCount_1 : decode cX1_optimalCount 1 = .ok (.invokevirtual 284, 3) := dk_182 1 28 (dk_at dksX1_optimalCount_0 1 rfl rfl)
theorem dX1_optimalCount_4 : decode cX1_optimalCount 4 = .ok (.aload_n 0, 1) := dk_42 (dk_at dksX1_optimalCount_0 4 rfl rfl)
theorem dX1_optimalCount_5 : decode cX1_optimalCount 5 = .ok (.invokevirtual 286, 3) := dk_182 1 30 (dk_at dksX1_optimalCount_0 5 rfl rfl)
theorem dX1_optimalCount_8 : decode cX1_optimalCount 8 = .ok (.pop, 1) := dk_87 (dk_at dksX1_optimalCount_0 8 rfl rfl)
theorem dX1_optimalCount_9 : decode cX1_optimalCount 9 = .ok (.aload_n 0, 1) := dk_42 (dk_at dksX1_optimalCount_0 9 rfl rfl)
theorem dX1_optimalCount_10 : decode cX1_optimalCount 10 = .ok (.invokevirtual 289, 3) := dk_182 1 33 (dk_at dksX1_optimalCount_0 10 rfl rfl)
theorem dX1_optimalCount_13 : decode cX1_optimalCount 13 = .ok (.aload_n 0, 1) := dk_42 (dk_at dksX1_optimalCount_0 13 rfl rfl)
theorem dX1_optimalCount_14 : decode cX1_optimalCount 14 = .ok (.getfield 73, 3) := dk_180 0 73 (dk_at dksX1_optimalCount_0 14 rfl rfl)
theorem dX1_optimalCount_17 : decode cX1_optimalCount 17 = .ok (.iconst 0, 1) := dk_3 (dk_at dksX1_optimalCount_0 17 rfl rfl)
theorem dX1_optimalCount_18 : decode cX1_optimalCount 18 = .ok (.iaload, 1) := dk_46 (dk_at dksX1_optimalCount_0 18 rfl rfl)
theorem dX1_optimalCount_19 : decode cX1_optimalCount 19 = .ok (.ireturn, 1) := dk_172 (dk_at dksX1_optimalCount_0 19 rfl rfl)
abbrev cX1_countOptimal : ByteArray := prog_1_method_45_code
def yX1_countOptimal : MethodName := ⟨RX1, "countOptimal", "()V"⟩
def dkwX1_countOptimal_4 : List UInt8 := [132, 5, 1, 167, 255, 193, 42, 180, 0, 73, 28, 21, 4, 79, 132, 2, 255, 167, 255, 164, 177]
abbrev dktX1_countOptimal_4 : List UInt8 := dkwX1_countOptimal_4 ++ []
def dkwX1_countOptimal_3 : List UInt8 := [21, 6, 153, 0, 17, 42, 180, 0, 73, 28, 4, 21, 5, 120, 128, 46, 167, 0, 4, 3, 96, 54, 4]
abbrev dktX1_countOptimal_3 : List UInt8 := dkwX1_countOptimal_3 ++ dktX1_countOptimal_4
def dkwX1_countOptimal_2 : List UInt8 := [4, 126, 154, 0, 17, 42, 29, 21, 5, 182, 1, 6, 154, 0, 7, 4, 167, 0, 4, 3, 54, 6, 21, 4]
abbrev dktX1_countOptimal_2 : List UInt8 := dkwX1_countOptimal_2 ++ dktX1_countOptimal_3
def dkwX1_countOptimal_1 : List UInt8 := [28, 184, 1, 25, 62, 3, 54, 4, 3, 54, 5, 21, 5, 42, 180, 0, 237, 162, 0, 60, 28, 21, 5, 122]
abbrev dktX1_countOptimal_1 : List UInt8 := dkwX1_countOptimal_1 ++ dktX1_countOptimal_2
def dkwX1_countOptimal_0 : List UInt8 := [4, 42, 180, 0, 237, 120, 4, 100, 60, 42, 180, 0, 73, 27, 4, 79, 27, 4, 100, 61, 28, 155, 0, 94]
abbrev dktX1_countOptimal_0 : List UInt8 := dkwX1_countOptimal_0 ++ dktX1_countOptimal_1
theorem dksX1_countOptimal_0 : cX1_countOptimal.data.toList.drop 0 = dktX1_countOptimal_0 := by decide +kernel
theorem dksX1_countOptimal_1 : cX1_countOptimal.data.toList.drop 24 = dktX1_countOptimal_1 := dk_seg dksX1_countOptimal_0 24 rfl rfl
theorem dksX1_countOptimal_2 : cX1_countOptimal.data.toList.drop 48 = dktX1_countOptimal_2 := dk_seg dksX1_countOptimal_1 24 rfl rfl
theorem dksX1_countOptimal_3 : cX1_countOptimal.data.toList.drop 72 = dktX1_countOptimal_3 := dk_seg dksX1_countOptimal_2 24 rfl rfl
theorem dksX1_countOptimal_4 : cX1_countOptimal.data.toList.drop 95 = dktX1_countOptimal_4 := dk_seg dksX1_countOptimal_3 23 rfl rfl
theorem dX1_countOptimal_0 : decode cX1_countOptimal 0 = .ok (.iconst 1, 1) := dk_4 (dk_at dksX1_countOptimal_0 0 rfl rfl)
theorem dX1_countOptimal_1 : decode cX1_countOptimal 1 = .ok (.aload_n 0, 1) := dk_42 (dk_at dksX1_countOptimal_0 1 rfl rfl)
theorem dX1_countOptimal_2 : decode cX1_countOptimal 2 = .ok (.getfield 237, 3) := dk_180 0 237 (dk_at dksX1_countOptimal_0 2 rfl rfl)
theorem dX1_countOptimal_5 : decode cX1_countOptimal 5 = .ok (.ishl, 1) := dk_120 (dk_at dksX1_countOptimal_0 5 rfl rfl)
theorem dX1_countOptimal_6 : decode cX1_countOptimal 6 = .ok (.iconst 1, 1) := dk_4 (dk_at dksX1_countOptimal_0 6 rfl rfl)
theorem dX1_countOptimal_7 : decode cX1_countOptimal 7 = .ok (.isub, 1) := dk_100 (dk_at dksX1_countOptimal_0 7 rfl rfl)
theorem dX1_countOptimal_8 : decode cX1_countOptimal 8 = .ok (.istore_n 1, 1) := dk_60 (dk_at dksX1_countOptimal_0 8 rfl rfl)
theorem dX1_countOptimal_9 : decode cX1_countOptimal 9 = .ok (.aload_n 0, 1) := dk_42 (dk_at dksX1_countOptimal_0 9 rfl rfl)
theorem dX1_countOptimal_10 : decode cX1_countOptimal 10 = .ok (.getfield 73, 3) := dk_180 0 73 (dk_at dksX1_countOptimal_0 10 rfl rfl)
theorem dX1_countOptimal_13 : decode cX1_countOptimal 13 = .ok (.iload_n 1, 1) := dk_27 (dk_at dksX1_countOptimal_0 13 rfl rfl)
theorem dX1_countOptimal_14 : decode cX1_countOptimal 14 = .ok (.iconst 1, 1) := dk_4 (dk_at dksX1_countOptimal_0 14 rfl rfl)
theorem dX1_countOptimal_15 : decode cX1_countOptimal 15 = .ok (.iastore, 1) := dk_79 (dk_at dksX1_countOptimal_0 15 rfl rfl)
theorem dX1_countOptimal_16 : decode cX1_countOptimal 16 = .ok (.iload_n 1, 1) := dk_27 (dk_at dksX1_countOptimal_0 16 rfl rfl)
theorem dX1_countOptimal_17 : decode cX1_countOptimal 17 = .ok (.iconst 1, 1) := dk_4 (dk_at dksX1_countOptimal_0 17 rfl rfl)
theorem dX1_countOptimal_18 : decode cX1_countOptimal 18 = .ok (.isub, 1) := dk_100 (dk_at dksX1_countOptimal_0 18 rfl rfl)
theorem dX1_countOptimal_19 : decode cX1_countOptimal 19 = .ok (.istore_n 2, 1) := dk_61 (dk_at dksX1_countOptimal_0 19 rfl rfl)
theorem dX1_countOptimal_20 : decode cX1_countOptimal 20 = .ok (.iload_n 2, 1) := dk_28 (dk_at dksX1_countOptimal_0 20 rfl rfl)
theorem dX1_countOptimal_21 : decode cX1_countOptimal 21 = .ok (.ifCond .lt 94, 3) := dk_155 0 94 (dk_at dksX1_countOptimal_0 21 rfl rfl)
theorem dX1_countOptimal_24 : decode cX1_countOptimal 24 = .ok (.iload_n 2, 1) := dk_28 (dk_at dksX1_countOptimal_1 0 rfl rfl)
theorem dX1_countOptimal_25 : decode cX1_countOptimal 25 = .ok (.invokestatic 281, 3) := dk_184 1 25 (dk_at dksX1_countOptimal_1 1 rfl rfl)
theorem dX1_countOptimal_28 : decode cX1_countOptimal 28 = .ok (.istore_n 3, 1) := dk_62 (dk_at dksX1_countOptimal_1 4 rfl rfl)
theorem dX1_countOptimal_29 : decode cX1_countOptimal 29 = .ok (.iconst 0, 1) := dk_3 (dk_at dksX1_countOptimal_1 5 rfl rfl)
theorem dX1_countOptimal_30 : decode cX1_countOptimal 30 = .ok (.istore 4, 2) := dk_54 4 (dk_at dksX1_countOptimal_1 6 rfl rfl)
theorem dX1_countOptimal_32 : decode cX1_countOptimal 32 = .ok (.iconst 0, 1) := dk_3 (dk_at dksX1_countOptimal_1 8 rfl rfl)
theorem dX1_countOptimal_33 : decode cX1_countOptimal 33 = .ok (.istore 5, 2) := dk_54 5 (dk_at dksX1_countOptimal_1 9 rfl rfl)
theorem dX1_countOptimal_35 : decode cX1_countOptimal 35 = .ok (.iload 5, 2) := dk_21 5 (dk_at dksX1_countOptimal_1 11 rfl rfl)
theorem dX1_countOptimal_37 : decode cX1_countOptimal 37 = .ok (.aload_n 0, 1) := dk_42 (dk_at dksX1_countOptimal_1 13 rfl rfl)
theorem dX1_countOptimal_38 : decode cX1_countOptimal 38 = .ok (.getfield 237, 3) := dk_180 0 237 (dk_at dksX1_countOptimal_1 14 rfl rfl)
theorem dX1_countOptimal_41 : decode cX1_countOptimal 41 = .ok (.if_icmp .ge 60, 3) := dk_162 0 60 (dk_at dksX1_countOptimal_1 17 rfl rfl)
theorem dX1_countOptimal_44 : decode cX1_countOptimal 44 = .ok (.iload_n 2, 1) := dk_28 (dk_at dksX1_countOptimal_1 20 rfl rfl)
theorem dX1_countOptimal_45 : decode cX1_countOptimal 45 = .ok (.iload 5, 2) := dk_21 5 (dk_at dksX1_countOptimal_1 21 rfl rfl)
theorem dX1_countOptimal_47 : decode cX1_countOptimal 47 = .ok (.ishr, 1) := dk_122 (dk_at dksX1_countOptimal_1 23 rfl rfl)
theorem dX1_countOptimal_48 : decode cX1_countOptimal 48 = .ok (.iconst 1, 1) := dk_4 (dk_at dksX1_countOptimal_2 0 rfl rfl)
theorem dX1_countOptimal_49 : decode cX1_countOptimal 49 = .ok (.iand, 1) := dk_126 (dk_at dksX1_countOptimal_2 1 rfl rfl)
theorem dX1_countOptimal_50 : decode cX1_countOptimal 50 = .ok (.ifCond .ne 17, 3) := dk_154 0 17 (dk_at dksX1_countOptimal_2 2 rfl rfl)
theorem dX1_countOptimal_53 : decode cX1_countOptimal 53 = .ok (.aload_n 0, 1) := dk_42 (dk_at dksX1_countOptimal_2 5 rfl rfl)
theorem dX1_countOptimal_54 : decode cX1_countOptimal 54 = .ok (.iload_n 3, 1) := dk_29 (dk_at dksX1_countOptimal_2 6 rfl rfl)
theorem dX1_countOptimal_55 : decode cX1_countOptimal 55 = .ok (.iload 5, 2) := dk_21 5 (dk_at dksX1_countOptimal_2 7 rfl rfl)
theorem dX1_countOptimal_57 : decode cX1_countOptimal 57 = .ok (.invokevirtual 262, 3) := dk_182 1 6 (dk_at dksX1_countOptimal_2 9 rfl rfl)
theorem dX1_countOptimal_60 : decode cX1_countOptimal 60 = .ok (.ifCond .ne 7, 3) := dk_154 0 7 (dk_at dksX1_countOptimal_2 12 rfl rfl)
theorem dX1_countOptimal_63 : decode cX1_countOptimal 63 = .ok (.iconst 1, 1) := dk_4 (dk_at dksX1_countOptimal_2 15 rfl rfl)
theorem dX1_countOptimal_64 : decode cX1_countOptimal 64 = .ok (.goto 4, 3) := dk_167 0 4 (dk_at dksX1_countOptimal_2 16 rfl rfl)
theorem dX1_countOptimal_67 : decode cX1_countOptimal 67 = .ok (.iconst 0, 1) := dk_3 (dk_at dksX1_countOptimal_2 19 rfl rfl)
theorem dX1_countOptimal_68 : decode cX1_countOptimal 68 = .ok (.istore 6, 2) := dk_54 6 (dk_at dksX1_countOptimal_2 20 rfl rfl)
theorem dX1_countOptimal_70 : decode cX1_countOptimal 70 = .ok (.iload 4, 2) := dk_21 4 (dk_at dksX1_countOptimal_2 22 rfl rfl)
theorem dX1_countOptimal_72 : decode cX1_countOptimal 72 = .ok (.iload 6, 2) := dk_21 6 (dk_at dksX1_countOptimal_3 0 rfl rfl)
theorem dX1_countOptimal_74 : decode cX1_countOptimal 74 = .ok (.ifCond .eq 17, 3) := dk_153 0 17 (dk_at dksX1_countOptimal_3 2 rfl rfl)
theorem dX1_countOptimal_77 : decode cX1_countOptimal 77 = .ok (.aload_n 0, 1) := dk_42 (dk_at dksX1_countOptimal_3 5 rfl rfl)
theorem dX1_countOptimal_78 : decode cX1_countOptimal 78 = .ok (.getfield 73, 3) := dk_180 0 73 (dk_at dksX1_countOptimal_3 6 rfl rfl)
theorem dX1_countOptimal_81 : decode cX1_countOptimal 81 = .ok (.iload_n 2, 1) := dk_28 (dk_at dksX1_countOptimal_3 9 rfl rfl)
theorem dX1_countOptimal_82 : decode cX1_countOptimal 82 = .ok (.iconst 1, 1) := dk_4 (dk_at dksX1_countOptimal_3 10 rfl rfl)
theorem dX1_countOptimal_83 : decode cX1_countOptimal 83 = .ok (.iload 5, 2) := dk_21 5 (dk_at dksX1_countOptimal_3 11 rfl rfl)
theorem dX1_countOptimal_85 : decode cX1_countOptimal 85 = .ok (.ishl, 1) := dk_120 (dk_at dksX1_countOptimal_3 13 rfl rfl)
theorem dX1_countOptimal_86 : decode cX1_countOptimal 86 = .ok (.ior, 1) := dk_128 (dk_at dksX1_countOptimal_3 14 rfl rfl)
theorem dX1_countOptimal_87 : decode cX1_countOptimal 87 = .ok (.iaload, 1) := dk_46 (dk_at dksX1_countOptimal_3 15 rfl rfl)
theorem dX1_countOptimal_88 : decode cX1_countOptimal 88 = .ok (.goto 4, 3) := dk_167 0 4 (dk_at dksX1_countOptimal_3 16 rfl rfl)
theorem dX1_countOptimal_91 : decode cX1_countOptimal 91 = .ok (.iconst 0, 1) := dk_3 (dk_at dksX1_countOptimal_3 19 rfl rfl)
theorem dX1_countOptimal_92 : decode cX1_countOptimal 92 = .ok (.iadd, 1) := dk_96 (dk_at dksX1_countOptimal_3 20 rfl rfl)
theorem dX1_countOptimal_93 : decode cX1_countOptimal 93 = .ok (.istore 4, 2) := dk_54 4 (dk_at dksX1_countOptimal_3 21 rfl rfl)
theorem dX1_countOptimal_95 : decode cX1_countOptimal 95 = .ok (.iinc 5 1, 3) := dk_132 5 1 (dk_at dksX1_countOptimal_4 0 rfl rfl)
theorem dX1_countOptimal_98 : decode cX1_countOptimal 98 = .ok (.goto (-63), 3) := dk_167 255 193 (dk_at dksX1_countOptimal_4 3 rfl rfl)
theorem dX1_countOptimal_101 : decode cX1_countOptimal 101 = .ok (.aload_n 0, 1) := dk_42 (dk_at dksX1_countOptimal_4 6 rfl rfl)
theorem dX1_countOptimal_102 : decode cX1_countOptimal 102 = .ok (.getfield 73, 3) := dk_180 0 73 (dk_at dksX1_countOptimal_4 7 rfl rfl)
theorem dX1_countOptimal_105 : decode cX1_countOptimal 105 = .ok (.iload_n 2, 1) := dk_28 (dk_at dksX1_countOptimal_4 10 rfl rfl)
theorem dX1_countOptimal_106 : decode cX1_countOptimal 106 = .ok (.iload 4, 2) := dk_21 4 (dk_at dksX1_countOptimal_4 11 rfl rfl)
theorem dX1_countOptimal_108 : decode cX1_countOptimal 108 = .ok (.iastore, 1) := dk_79 (dk_at dksX1_countOptimal_4 13 rfl rfl)
theorem dX1_countOptimal_109 : decode cX1_countOptimal 109 = .ok (.iinc 2 (-1), 3) := dk_132 2 255 (dk_at dksX1_countOptimal_4 14 rfl rfl)
theorem dX1_countOptimal_112 : decode cX1_countOptimal 112 = .ok (.goto (-92), 3) := dk_167 255 164 (dk_at dksX1_countOptimal_4 17 rfl rfl)
theorem dX1_countOptimal_115 : decode cX1_countOptimal 115 = .ok (.return_, 1) := dk_177 (dk_at dksX1_countOptimal_4 20 rfl rfl)
abbrev cX1_secondBest : ByteArray := prog_1_method_58_code
def yX1_secondBest : MethodName := ⟨RX1, "secondBest", "()I"⟩
def dkwX1_secondBest_3 : List UInt8 := [184, 0, 190, 61, 27, 16, 10, 108, 60, 132, 3, 255, 167, 255, 230, 28, 172]
abbrev dktX1_secondBest_3 : List UInt8 := dkwX1_secondBest_3 ++ []
def dkwX1_secondBest_2 : List UInt8 := [61, 42, 180, 0, 7, 4, 100, 62, 29, 155, 0, 28, 28, 42, 29, 27, 16, 10, 112, 182, 1, 42]
abbrev dktX1_secondBest_2 : List UInt8 := dkwX1_secondBest_2 ++ dktX1_secondBest_3
def dkwX1_secondBest_1 : List UInt8 := [162, 0, 21, 16, 10, 27, 104, 42, 180, 0, 48, 28, 46, 96, 60, 132, 2, 1, 167, 255, 233, 17, 39, 16]
abbrev dktX1_secondBest_1 : List UInt8 := dkwX1_secondBest_1 ++ dktX1_secondBest_2
def dkwX1_secondBest_0 : List UInt8 := [42, 180, 0, 7, 4, 160, 0, 5, 2, 172, 42, 182, 1, 36, 87, 3, 60, 3, 61, 28, 42, 180, 0, 7]
abbrev dktX1_secondBest_0 : List UInt8 := dkwX1_secondBest_0 ++ dktX1_secondBest_1
theorem dksX1_secondBest_0 : cX1_secondBest.data.toList.drop 0 = dktX1_secondBest_0 := by decide +kernel
theorem dksX1_secondBest_1 : cX1_secondBest.data.toList.drop 24 = dktX1_secondBest_1 := dk_seg dksX1_secondBest_0 24 rfl rfl
theorem dksX1_secondBest_2 : cX1_secondBest.data.toList.drop 48 = dktX1_secondBest_2 := dk_seg dksX1_secondBest_1 24 rfl rfl
theorem dksX1_secondBest_3 : cX1_secondBest.data.toList.drop 70 = dktX1_secondBest_3 := dk_seg dksX1_secondBest_2 22 rfl rfl
theorem dX1_secondBest_0 : decode cX1_secondBest 0 = .ok (.aload_n 0, 1) := dk_42 (dk_at dksX1_secondBest_0 0 rfl rfl)
theorem dX1_secondBest_1 : decode cX1_secondBest 1 = .ok (.getfield 7, 3) := dk_180 0 7 (dk_at dksX1_secondBest_0 1 rfl rfl)
theorem dX1_secondBest_4 : decode cX1_secondBest 4 = .ok (.iconst 1, 1) := dk_4 (dk_at dksX1_secondBest_0 4 rfl rfl)
theorem dX1_secondBest_5 : decode cX1_secondBest 5 = .ok (.if_icmp .ne 5, 3) := dk_160 0 5 (dk_at dksX1_secondBest_0 5 rfl rfl)
theorem dX1_secondBest_8 : decode cX1_secondBest 8 = .ok (.iconst (-1), 1) := dk_2 (dk_at dksX1_secondBest_0 8 rfl rfl)
theorem dX1_secondBest_9 : decode cX1_secondBest 9 = .ok (.ireturn, 1) := dk_172 (dk_at dksX1_secondBest_0 9 rfl rfl)
theorem dX1_secondBest_10 : decode cX1_secondBest 10 = .ok (.aload_n 0, 1) := dk_42 (dk_at dksX1_secondBest_0 10 rfl rfl)
theorem dX1_secondBest_11 : decode cX1_secondBest 11 = .ok (.invokevirtual 292, 3) := dk_182 1 36 (dk_at dksX1_secondBest_0 11 rfl rfl)
theorem dX1_secondBest_14 : decode cX1_secondBest 14 = .ok (.pop, 1) := dk_87 (dk_at dksX1_secondBest_0 14 rfl rfl)
theorem dX1_secondBest_15 : decode cX1_secondBest 15 = .ok (.iconst 0, 1) := dk_3 (dk_at dksX1_secondBest_0 15 rfl rfl)
theorem dX1_secondBest_16 : decode cX1_secondBest 16 = .ok (.istore_n 1, 1) := dk_60 (dk_at dksX1_secondBest_0 16 rfl rfl)
theorem dX1_secondBest_17 : decode cX1_secondBest 17 = .ok (.iconst 0, 1) := dk_3 (dk_at dksX1_secondBest_0 17 rfl rfl)
theorem dX1_secondBest_18 : decode cX1_secondBest 18 = .ok (.istore_n 2, 1) := dk_61 (dk_at dksX1_secondBest_0 18 rfl rfl)
theorem dX1_secondBest_19 : decode cX1_secondBest 19 = .ok (.iload_n 2, 1) := dk_28 (dk_at dksX1_secondBest_0 19 rfl rfl)
theorem dX1_secondBest_20 : decode cX1_secondBest 20 = .ok (.aload_n 0, 1) := dk_42 (dk_at dksX1_secondBest_0 20 rfl rfl)
theorem dX1_secondBest_21 : decode cX1_secondBest 21 = .ok (.getfield 7, 3) := dk_180 0 7 (dk_at dksX1_secondBest_0 21 rfl rfl)
theorem dX1_secondBest_24 : decode cX1_secondBest 24 = .ok (.if_icmp .ge 21, 3) := dk_162 0 21 (dk_at dksX1_secondBest_1 0 rfl rfl)
theorem dX1_secondBest_27 : decode cX1_secondBest 27 = .ok (.bipush 10, 2) := dk_16 10 (dk_at dksX1_secondBest_1 3 rfl rfl)
theorem dX1_secondBest_29 : decode cX1_secondBest 29 = .ok (.iload_n 1, 1) := dk_27 (dk_at dksX1_secondBest_1 5 rfl rfl)
theorem dX1_secondBest_30 : decode cX1_secondBest 30 = .ok (.imul, 1) := dk_104 (dk_at dksX1_secondBest_1 6 rfl rfl)
theorem dX1_secondBest_31 : decode cX1_secondBest 31 = .ok (.aload_n 0, 1) := dk_42 (dk_at dksX1_secondBest_1 7 rfl rfl)
theorem dX1_secondBest_32 : decode cX1_secondBest 32 = .ok (.getfield 48, 3) := dk_180 0 48 (dk_at dksX1_secondBest_1 8 rfl rfl)
theorem dX1_secondBest_35 : decode cX1_secondBest 35 = .ok (.iload_n 2, 1) := dk_28 (dk_at dksX1_secondBest_1 11 rfl rfl)
theorem dX1_secondBest_36 : decode cX1_secondBest 36 = .ok (.iaload, 1) := dk_46 (dk_at dksX1_secondBest_1 12 rfl rfl)
theorem dX1_secondBest_37 : decode cX1_secondBest 37 = .ok (.iadd, 1) := dk_96 (dk_at dksX1_secondBest_1 13 rfl rfl)
theorem dX1_secondBest_38 : decode cX1_secondBest 38 = .ok (.istore_n 1, 1) := dk_60 (dk_at dksX1_secondBest_1 14 rfl rfl)
theorem dX1_secondBest_39 : decode cX1_secondBest 39 = .ok (.iinc 2 1, 3) := dk_132 2 1 (dk_at dksX1_secondBest_1 15 rfl rfl)
theorem dX1_secondBest_42 : decode cX1_secondBest 42 = .ok (.goto (-23), 3) := dk_167 255 233 (dk_at dksX1_secondBest_1 18 rfl rfl)
theorem dX1_secondBest_45 : decode cX1_secondBest 45 = .ok (.sipush 10000, 3) := dk_17 39 16 (dk_at dksX1_secondBest_1 21 rfl rfl)
theorem dX1_secondBest_48 : decode cX1_secondBest 48 = .ok (.istore_n 2, 1) := dk_61 (dk_at dksX1_secondBest_2 0 rfl rfl)
theorem dX1_secondBest_49 : decode cX1_secondBest 49 = .ok (.aload_n 0, 1) := dk_42 (dk_at dksX1_secondBest_2 1 rfl rfl)
theorem dX1_secondBest_50 : decode cX1_secondBest 50 = .ok (.getfield 7, 3) := dk_180 0 7 (dk_at dksX1_secondBest_2 2 rfl rfl)
theorem dX1_secondBest_53 : decode cX1_secondBest 53 = .ok (.iconst 1, 1) := dk_4 (dk_at dksX1_secondBest_2 5 rfl rfl)
theorem dX1_secondBest_54 : decode cX1_secondBest 54 = .ok (.isub, 1) := dk_100 (dk_at dksX1_secondBest_2 6 rfl rfl)
theorem dX1_secondBest_55 : decode cX1_secondBest 55 = .ok (.istore_n 3, 1) := dk_62 (dk_at dksX1_secondBest_2 7 rfl rfl)
theorem dX1_secondBest_56 : decode cX1_secondBest 56 = .ok (.iload_n 3, 1) := dk_29 (dk_at dksX1_secondBest_2 8 rfl rfl)
theorem dX1_secondBest_57 : decode cX1_secondBest 57 = .ok (.ifCond .lt 28, 3) := dk_155 0 28 (dk_at dksX1_secondBest_2 9 rfl rfl)
theorem dX1_secondBest_60 : decode cX1_secondBest 60 = .ok (.iload_n 2, 1) := dk_28 (dk_at dksX1_secondBest_2 12 rfl rfl)
theorem dX1_secondBest_61 : decode cX1_secondBest 61 = .ok (.aload_n 0, 1) := dk_42 (dk_at dksX1_secondBest_2 13 rfl rfl)
theorem dX1_secondBest_62 : decode cX1_secondBest 62 = .ok (.iload_n 3, 1) := dk_29 (dk_at dksX1_secondBest_2 14 rfl rfl)
theorem dX1_secondBest_63 : decode cX1_secondBest 63 = .ok (.iload_n 1, 1) := dk_27 (dk_at dksX1_secondBest_2 15 rfl rfl)
theorem dX1_secondBest_64 : decode cX1_secondBest 64 = .ok (.bipush 10, 2) := dk_16 10 (dk_at dksX1_secondBest_2 16 rfl rfl)
theorem dX1_secondBest_66 : decode cX1_secondBest 66 = .ok (.irem, 1) := dk_112 (dk_at dksX1_secondBest_2 18 rfl rfl)
theorem dX1_secondBest_67 : decode cX1_secondBest 67 = .ok (.invokevirtual 298, 3) := dk_182 1 42 (dk_at dksX1_secondBest_2 19 rfl rfl)
theorem dX1_secondBest_70 : decode cX1_secondBest 70 = .ok (.invokestatic 190, 3) := dk_184 0 190 (dk_at dksX1_secondBest_3 0 rfl rfl)
theorem dX1_secondBest_73 : decode cX1_secondBest 73 = .ok (.istore_n 2, 1) := dk_61 (dk_at dksX1_secondBest_3 3 rfl rfl)
theorem dX1_secondBest_74 : decode cX1_secondBest 74 = .ok (.iload_n 1, 1) := dk_27 (dk_at dksX1_secondBest_3 4 rfl rfl)
theorem dX1_secondBest_75 : decode cX1_secondBest 75 = .ok (.bipush 10, 2) := dk_16 10 (dk_at dksX1_secondBest_3 5 rfl rfl)
theorem dX1_secondBest_77 : decode cX1_secondBest 77 = .ok (.idiv, 1) := dk_108 (dk_at dksX1_secondBest_3 7 rfl rfl)
theorem dX1_secondBest_78 : decode cX1_secondBest 78 = .ok (.istore_n 1, 1) := dk_60 (dk_at dksX1_secondBest_3 8 rfl rfl)
theorem dX1_secondBest_79 : decode cX1_secondBest 79 = .ok (.iinc 3 (-1), 3) := dk_132 3 255 (dk_at dksX1_secondBest_3 9 rfl rfl)
theorem dX1_secondBest_82 : decode cX1_secondBest 82 = .ok (.goto (-26), 3) := dk_167 255 230 (dk_at dksX1_secondBest_3 12 rfl rfl)
theorem dX1_secondBest_85 : decode cX1_secondBest 85 = .ok (.iload_n 2, 1) := dk_28 (dk_at dksX1_secondBest_3 15 rfl rfl)
theorem dX1_secondBest_86 : decode cX1_secondBest 86 = .ok (.ireturn, 1) := dk_172 (dk_at dksX1_secondBest_3 16 rfl rfl)
abbrev cX1_findFirst : ByteArray := prog_1_method_46_code
def yX1_findFirst : MethodName := ⟨RX1, "findFirst", "()I"⟩
def dkwX1_findFirst_3 : List UInt8 := [180, 0, 48, 29, 21, 4, 79, 28, 4, 21, 4, 120, 128, 61, 132, 3, 1, 167, 255, 187, 27, 172]
abbrev dktX1_findFirst_3 : List UInt8 := dkwX1_findFirst_3 ++ []
def dkwX1_findFirst_2 : List UInt8 := [154, 0, 17, 42, 180, 0, 73, 28, 4, 21, 4, 120, 128, 46, 154, 0, 9, 132, 4, 1, 167, 255, 219, 42]
abbrev dktX1_findFirst_2 : List UInt8 := dkwX1_findFirst_2 ++ dktX1_findFirst_3
def dkwX1_findFirst_1 : List UInt8 := [162, 0, 67, 3, 54, 4, 28, 21, 4, 122, 4, 126, 4, 159, 0, 27, 42, 29, 21, 4, 182, 1, 6]
abbrev dktX1_findFirst_1 : List UInt8 := dkwX1_findFirst_1 ++ dktX1_findFirst_2
def dkwX1_findFirst_0 : List UInt8 := [42, 182, 1, 28, 42, 182, 1, 30, 60, 42, 182, 1, 33, 3, 61, 3, 62, 29, 42, 180, 0, 7]
abbrev dktX1_findFirst_0 : List UInt8 := dkwX1_findFirst_0 ++ dktX1_findFirst_1
theorem dksX1_findFirst_0 : cX1_findFirst.data.toList.drop 0 = dktX1_findFirst_0 := by decide +kernel
theorem dksX1_findFirst_1 : cX1_findFirst.data.toList.drop 22 = dktX1_findFirst_1 := dk_seg dksX1_findFirst_0 22 rfl rfl
theorem dksX1_findFirst_2 : cX1_findFirst.data.toList.drop 45 = dktX1_findFirst_2 := dk_seg dksX1_findFirst_1 23 rfl rfl
theorem dksX1_findFirst_3 : cX1_findFirst.data.toList.drop 69 = dktX1_findFirst_3 := dk_seg dksX1_findFirst_2 24 rfl rfl
theorem dX1_findFirst_0 : decode cX1_findFirst 0 = .ok (.aload_n 0, 1) := dk_42 (dk_at dksX1_findFirst_0 0 rfl rfl)
theorem dX1_findFirst_1 : decode cX1_findFirst 1 = .ok (.invokevirtual 284, 3) := dk_182 1 28 (dk_at dksX1_findFirst_0 1 rfl rfl)
theorem dX1_findFirst_4 : decode cX1_findFirst 4 = .ok (.aload_n 0, 1) := dk_42 (dk_at dksX1_findFirst_0 4 rfl rfl)
theorem dX1_findFirst_5 : decode cX1_findFirst 5 = .ok (.invokevirtual 286, 3) := dk_182 1 30 (dk_at dksX1_findFirst_0 5 rfl rfl)
theorem dX1_findFirst_8 : decode cX1_findFirst 8 = .ok (.istore_n 1, 1) := dk_60 (dk_at dksX1_findFirst_0 8 rfl rfl)
theorem dX1_findFirst_9 : decode cX1_findFirst 9 = .ok (.aload_n 0, 1) := dk_42 (dk_at dksX1_findFirst_0 9 rfl rfl)
theorem dX1_findFirst_10 : decode cX1_findFirst 10 = .ok (.invokevirtual 289, 3) := dk_182 1 33 (dk_at dksX1_findFirst_0 10 rfl rfl)
theorem dX1_findFirst_13 : decode cX1_findFirst 13 = .ok (.iconst 0, 1) := dk_3 (dk_at dksX1_findFirst_0 13 rfl rfl)
theorem dX1_findFirst_14 : decode cX1_findFirst 14 = .ok (.istore_n 2, 1) := dk_61 (dk_at dksX1_findFirst_0 14 rfl rfl)
theorem dX1_findFirst_15 : decode cX1_findFirst 15 = .ok (.iconst 0, 1) := dk_3 (dk_at dksX1_findFirst_0 15 rfl rfl)
theorem dX1_findFirst_16 : decode cX1_findFirst 16 = .ok (.istore_n 3, 1) := dk_62 (dk_at dksX1_findFirst_0 16 rfl rfl)
theorem dX1_findFirst_17 : decode cX1_findFirst 17 = .ok (.iload_n 3, 1) := dk_29 (dk_at dksX1_findFirst_0 17 rfl rfl)
theorem dX1_findFirst_18 : decode cX1_findFirst 18 = .ok (.aload_n 0, 1) := dk_42 (dk_at dksX1_findFirst_0 18 rfl rfl)
theorem dX1_findFirst_19 : decode cX1_findFirst 19 = .ok (.getfield 7, 3) := dk_180 0 7 (dk_at dksX1_findFirst_0 19 rfl rfl)
theorem dX1_findFirst_22 : decode cX1_findFirst 22 = .ok (.if_icmp .ge 67, 3) := dk_162 0 67 (dk_at dksX1_findFirst_1 0 rfl rfl)
theorem dX1_findFirst_25 : decode cX1_findFirst 25 = .ok (.iconst 0, 1) := dk_3 (dk_at dksX1_findFirst_1 3 rfl rfl)
theorem dX1_findFirst_26 : decode cX1_findFirst 26 = .ok (.istore 4, 2) := dk_54 4 (dk_at dksX1_findFirst_1 4 rfl rfl)
theorem dX1_findFirst_28 : decode cX1_findFirst 28 = .ok (.iload_n 2, 1) := dk_28 (dk_at dksX1_findFirst_1 6 rfl rfl)
theorem dX1_findFirst_29 : decode cX1_findFirst 29 = .ok (.iload 4, 2) := dk_21 4 (dk_at dksX1_findFirst_1 7 rfl rfl)
theorem dX1_findFirst_31 : decode cX1_findFirst 31 = .ok (.ishr, 1) := dk_122 (dk_at dksX1_findFirst_1 9 rfl rfl)
theorem dX1_findFirst_32 : decode cX1_findFirst 32 = .ok (.iconst 1, 1) := dk_4 (dk_at dksX1_findFirst_1 10 rfl rfl)
theorem dX1_findFirst_33 : decode cX1_findFirst 33 = .ok (.iand, 1) := dk_126 (dk_at dksX1_findFirst_1 11 rfl rfl)
theorem dX1_findFirst_34 : decode cX1_findFirst 34 = .ok (.iconst 1, 1) := dk_4 (dk_at dksX1_findFirst_1 12 rfl rfl)
theorem dX1_findFirst_35 : decode cX1_findFirst 35 = .ok (.if_icmp .eq 27, 3) := dk_159 0 27 (dk_at dksX1_findFirst_1 13 rfl rfl)
theorem dX1_findFirst_38 : decode cX1_findFirst 38 = .ok (.aload_n 0, 1) := dk_42 (dk_at dksX1_findFirst_1 16 rfl rfl)
theorem dX1_findFirst_39 : decode cX1_findFirst 39 = .ok (.iload_n 3, 1) := dk_29 (dk_at dksX1_findFirst_1 17 rfl rfl)
theorem dX1_findFirst_40 : decode cX1_findFirst 40 = .ok (.iload 4, 2) := dk_21 4 (dk_at dksX1_findFirst_1 18 rfl rfl)
theorem dX1_findFirst_42 : decode cX1_findFirst 42 = .ok (.invokevirtual 262, 3) := dk_182 1 6 (dk_at dksX1_findFirst_1 20 rfl rfl)
theorem dX1_findFirst_45 : decode cX1_findFirst 45 = .ok (.ifCond .ne 17, 3) := dk_154 0 17 (dk_at dksX1_findFirst_2 0 rfl rfl)
theorem dX1_findFirst_48 : decode cX1_findFirst 48 = .ok (.aload_n 0, 1) := dk_42 (dk_at dksX1_findFirst_2 3 rfl rfl)
theorem dX1_findFirst_49 : decode cX1_findFirst 49 = .ok (.getfield 73, 3) := dk_180 0 73 (dk_at dksX1_findFirst_2 4 rfl rfl)
theorem dX1_findFirst_52 : decode cX1_findFirst 52 = .ok (.iload_n 2, 1) := dk_28 (dk_at dksX1_findFirst_2 7 rfl rfl)
theorem dX1_findFirst_53 : decode cX1_findFirst 53 = .ok (.iconst 1, 1) := dk_4 (dk_at dksX1_findFirst_2 8 rfl rfl)
theorem dX1_findFirst_54 : decode cX1_findFirst 54 = .ok (.iload 4, 2) := dk_21 4 (dk_at dksX1_findFirst_2 9 rfl rfl)
theorem dX1_findFirst_56 : decode cX1_findFirst 56 = .ok (.ishl, 1) := dk_120 (dk_at dksX1_findFirst_2 11 rfl rfl)
theorem dX1_findFirst_57 : decode cX1_findFirst 57 = .ok (.ior, 1) := dk_128 (dk_at dksX1_findFirst_2 12 rfl rfl)
theorem dX1_findFirst_58 : decode cX1_findFirst 58 = .ok (.iaload, 1) := dk_46 (dk_at dksX1_findFirst_2 13 rfl rfl)
theorem dX1_findFirst_59 : decode cX1_findFirst 59 = .ok (.ifCond .ne 9, 3) := dk_154 0 9 (dk_at dksX1_findFirst_2 14 rfl rfl)
theorem dX1_findFirst_62 : decode cX1_findFirst 62 = .ok (.iinc 4 1, 3) := dk_132 4 1 (dk_at dksX1_findFirst_2 17 rfl rfl)
theorem dX1_findFirst_65 : decode cX1_findFirst 65 = .ok (.goto (-37), 3) := dk_167 255 219 (dk_at dksX1_findFirst_2 20 rfl rfl)
theorem dX1_findFirst_68 : decode cX1_findFirst 68 = .ok (.aload_n 0, 1) := dk_42 (dk_at dksX1_findFirst_2 23 rfl rfl)
theorem dX1_findFirst_69 : decode cX1_findFirst 69 = .ok (.getfield 48, 3) := dk_180 0 48 (dk_at dksX1_findFirst_3 0 rfl rfl)
theorem dX1_findFirst_72 : decode cX1_findFirst 72 = .ok (.iload_n 3, 1) := dk_29 (dk_at dksX1_findFirst_3 3 rfl rfl)
theorem dX1_findFirst_73 : decode cX1_findFirst 73 = .ok (.iload 4, 2) := dk_21 4 (dk_at dksX1_findFirst_3 4 rfl rfl)
theorem dX1_findFirst_75 : decode cX1_findFirst 75 = .ok (.iastore, 1) := dk_79 (dk_at dksX1_findFirst_3 6 rfl rfl)
theorem dX1_findFirst_76 : decode cX1_findFirst 76 = .ok (.iload_n 2, 1) := dk_28 (dk_at dksX1_findFirst_3 7 rfl rfl)
theorem dX1_findFirst_77 : decode cX1_findFirst 77 = .ok (.iconst 1, 1) := dk_4 (dk_at dksX1_findFirst_3 8 rfl rfl)
theorem dX1_findFirst_78 : decode cX1_findFirst 78 = .ok (.iload 4, 2) := dk_21 4 (dk_at dksX1_findFirst_3 9 rfl rfl)
theorem dX1_findFirst_80 : decode cX1_findFirst 80 = .ok (.ishl, 1) := dk_120 (dk_at dksX1_findFirst_3 11 rfl rfl)
theorem dX1_findFirst_81 : decode cX1_findFirst 81 = .ok (.ior, 1) := dk_128 (dk_at dksX1_findFirst_3 12 rfl rfl)
theorem dX1_findFirst_82 : decode cX1_findFirst 82 = .ok (.istore_n 2, 1) := dk_61 (dk_at dksX1_findFirst_3 13 rfl rfl)
theorem dX1_findFirst_83 : decode cX1_findFirst 83 = .ok (.iinc 3 1, 3) := dk_132 3 1 (dk_at dksX1_findFirst_3 14 rfl rfl)
theorem dX1_findFirst_86 : decode cX1_findFirst 86 = .ok (.goto (-69), 3) := dk_167 255 187 (dk_at dksX1_findFirst_3 17 rfl rfl)
theorem dX1_findFirst_89 : decode cX1_findFirst 89 = .ok (.iload_n 1, 1) := dk_27 (dk_at dksX1_findFirst_3 20 rfl rfl)
theorem dX1_findFirst_90 : decode cX1_findFirst 90 = .ok (.ireturn, 1) := dk_172 (dk_at dksX1_findFirst_3 21 rfl rfl)
abbrev cX1_minimumWithout : ByteArray := prog_1_method_56_code
def yX1_minimumWithout : MethodName := ⟨RX1, "minimumWithout", "(II)I"⟩
def dkwX1_minimumWithout_2 : List UInt8 := [79, 42, 182, 1, 30, 172]
abbrev dktX1_minimumWithout_2 : List UInt8 := dkwX1_minimumWithout_2 ++ []
def dkwX1_minimumWithout_1 : List UInt8 := [42, 180, 0, 7, 4, 160, 0, 5, 2, 172, 42, 182, 1, 28, 42, 180, 0, 35, 27, 50, 28, 17, 39, 16]
abbrev dktX1_minimumWithout_1 : List UInt8 := dkwX1_minimumWithout_1 ++ dktX1_minimumWithout_2
def dkwX1_minimumWithout_0 : List UInt8 := [42, 27, 182, 0, 169, 153, 0, 15, 42, 28, 182, 0, 169, 153, 0, 7, 4, 167, 0, 4, 3, 184, 0, 176]
abbrev dktX1_minimumWithout_0 : List UInt8 := dkwX1_minimumWithout_0 ++ dktX1_minimumWithout_1
theorem dksX1_minimumWithout_0 : cX1_minimumWithout.data.toList.drop 0 = dktX1_minimumWithout_0 := by decide +kernel
theorem dksX1_minimumWithout_1 : cX1_minimumWithout.data.toList.drop 24 = dktX1_minimumWithout_1 := dk_seg dksX1_minimumWithout_0 24 rfl rfl
theorem dksX1_minimumWithout_2 : cX1_minimumWithout.data.toList.drop 48 = dktX1_minimumWithout_2 := dk_seg dksX1_minimumWithout_1 24 rfl rfl
theorem dX1_minimumWithout_0 : decode cX1_minimumWithout 0 = .ok (.aload_n 0, 1) := dk_42 (dk_at dksX1_minimumWithout_0 0 rfl rfl)
theorem dX1_minimumWithout_1 : decode cX1_minimumWithout 1 = .ok (.iload_n 1, 1) := dk_27 (dk_at dksX1_minimumWithout_0 1 rfl rfl)
theorem dX1_minimumWithout_2 : decode cX1_minimumWithout 2 = .ok (.invokevirtual 169, 3) := dk_182 0 169 (dk_at dksX1_minimumWithout_0 2 rfl rfl)
theorem dX1_minimumWithout_5 : decode cX1_minimumWithout 5 = .ok (.ifCond .eq 15, 3) := dk_153 0 15 (dk_at dksX1_minimumWithout_0 5 rfl rfl)
theorem dX1_minimumWithout_8 : decode cX1_minimumWithout 8 = .ok (.aload_n 0, 1) := dk_42 (dk_at dksX1_minimumWithout_0 8 rfl rfl)
theorem dX1_minimumWithout_9 : decode cX1_minimumWithout 9 = .ok (.iload_n 2, 1) := dk_28 (dk_at dksX1_minimumWithout_0 9 rfl rfl)
theorem dX1_minimumWithout_10 : decode cX1_minimumWithout 10 = .ok (.invokevirtual 169, 3) := dk_182 0 169 (dk_at dksX1_minimumWithout_0 10 rfl rfl)
theorem dX1_minimumWithout_13 : decode cX1_minimumWithout 13 = .ok (.ifCond .eq 7, 3) := dk_153 0 7 (dk_at dksX1_minimumWithout_0 13 rfl rfl)
theorem dX1_minimumWithout_16 : decode cX1_minimumWithout 16 = .ok (.iconst 1, 1) := dk_4 (dk_at dksX1_minimumWithout_0 16 rfl rfl)
theorem dX1_minimumWithout_17 : decode cX1_minimumWithout 17 = .ok (.goto 4, 3) := dk_167 0 4 (dk_at dksX1_minimumWithout_0 17 rfl rfl)
theorem dX1_minimumWithout_20 : decode cX1_minimumWithout 20 = .ok (.iconst 0, 1) := dk_3 (dk_at dksX1_minimumWithout_0 20 rfl rfl)
theorem dX1_minimumWithout_21 : decode cX1_minimumWithout 21 = .ok (.invokestatic 176, 3) := dk_184 0 176 (dk_at dksX1_minimumWithout_0 21 rfl rfl)
theorem dX1_minimumWithout_24 : decode cX1_minimumWithout 24 = .ok (.aload_n 0, 1) := dk_42 (dk_at dksX1_minimumWithout_1 0 rfl rfl)
theorem dX1_minimumWithout_25 : decode cX1_minimumWithout 25 = .ok (.getfield 7, 3) := dk_180 0 7 (dk_at dksX1_minimumWithout_1 1 rfl rfl)
theorem dX1_minimumWithout_28 : decode cX1_minimumWithout 28 = .ok (.iconst 1, 1) := dk_4 (dk_at dksX1_minimumWithout_1 4 rfl rfl)
theorem dX1_minimumWithout_29 : decode cX1_minimumWithout 29 = .ok (.if_icmp .ne 5, 3) := dk_160 0 5 (dk_at dksX1_minimumWithout_1 5 rfl rfl)
theorem dX1_minimumWithout_32 : decode cX1_minimumWithout 32 = .ok (.iconst (-1), 1) := dk_2 (dk_at dksX1_minimumWithout_1 8 rfl rfl)
theorem dX1_minimumWithout_33 : decode cX1_minimumWithout 33 = .ok (.ireturn, 1) := dk_172 (dk_at dksX1_minimumWithout_1 9 rfl rfl)
theorem dX1_minimumWithout_34 : decode cX1_minimumWithout 34 = .ok (.aload_n 0, 1) := dk_42 (dk_at dksX1_minimumWithout_1 10 rfl rfl)
theorem dX1_minimumWithout_35 : decode cX1_minimumWithout 35 = .ok (.invokevirtual 284, 3) := dk_182 1 28 (dk_at dksX1_minimumWithout_1 11 rfl rfl)
theorem dX1_minimumWithout_38 : decode cX1_minimumWithout 38 = .ok (.aload_n 0, 1) := dk_42 (dk_at dksX1_minimumWithout_1 14 rfl rfl)
theorem dX1_minimumWithout_39 : decode cX1_minimumWithout 39 = .ok (.getfield 35, 3) := dk_180 0 35 (dk_at dksX1_minimumWithout_1 15 rfl rfl)
theorem dX1_minimumWithout_42 : decode cX1_minimumWithout 42 = .ok (.iload_n 1, 1) := dk_27 (dk_at dksX1_minimumWithout_1 18 rfl rfl)
theorem dX1_minimumWithout_43 : decode cX1_minimumWithout 43 = .ok (.aaload, 1) := dk_50 (dk_at dksX1_minimumWithout_1 19 rfl rfl)
theorem dX1_minimumWithout_44 : decode cX1_minimumWithout 44 = .ok (.iload_n 2, 1) := dk_28 (dk_at dksX1_minimumWithout_1 20 rfl rfl)
theorem dX1_minimumWithout_45 : decode cX1_minimumWithout 45 = .ok (.sipush 10000, 3) := dk_17 39 16 (dk_at dksX1_minimumWithout_1 21 rfl rfl)
theorem dX1_minimumWithout_48 : decode cX1_minimumWithout 48 = .ok (.iastore, 1) := dk_79 (dk_at dksX1_minimumWithout_2 0 rfl rfl)
theorem dX1_minimumWithout_49 : decode cX1_minimumWithout 49 = .ok (.aload_n 0, 1) := dk_42 (dk_at dksX1_minimumWithout_2 1 rfl rfl)
theorem dX1_minimumWithout_50 : decode cX1_minimumWithout 50 = .ok (.invokevirtual 286, 3) := dk_182 1 30 (dk_at dksX1_minimumWithout_2 2 rfl rfl)
theorem dX1_minimumWithout_53 : decode cX1_minimumWithout 53 = .ok (.ireturn, 1) := dk_172 (dk_at dksX1_minimumWithout_2 5 rfl rfl)
abbrev cX1_isRow : ByteArray := prog_1_method_10_code
def yX1_isRow : MethodName := ⟨RX1, "isRow", "(I)Z"⟩
def dkwX1_isRow_0 : List UInt8 := [27, 133, 9, 42, 180, 0, 7, 4, 100, 133, 184, 0, 127, 172]
abbrev dktX1_isRow_0 : List UInt8 := dkwX1_isRow_0 ++ []
theorem dksX1_isRow_0 : cX1_isRow.data.toList.drop 0 = dktX1_isRow_0 := by decide +kernel
theorem dX1_isRow_0 : decode cX1_isRow 0 = .ok (.iload_n 1, 1) := dk_27 (dk_at dksX1_isRow_0 0 rfl rfl)
theorem dX1_isRow_1 : decode cX1_isRow 1 = .ok (.i2l, 1) := dk_133 (dk_at dksX1_isRow_0 1 rfl rfl)
theorem dX1_isRow_2 : decode cX1_isRow 2 = .ok (.lconst 0, 1) := dk_9 (dk_at dksX1_isRow_0 2 rfl rfl)
theorem dX1_isRow_3 : decode cX1_isRow 3 = .ok (.aload_n 0, 1) := dk_42 (dk_at dksX1_isRow_0 3 rfl rfl)
theorem dX1_isRow_4 : decode cX1_isRow 4 = .ok (.getfield 7, 3) := dk_180 0 7 (dk_at dksX1_isRow_0 4 rfl rfl)
theorem dX1_isRow_7 : decode cX1_isRow 7 = .ok (.iconst 1, 1) := dk_4 (dk_at dksX1_isRow_0 7 rfl rfl)
theorem dX1_isRow_8 : decode cX1_isRow 8 = .ok (.isub, 1) := dk_100 (dk_at dksX1_isRow_0 8 rfl rfl)
theorem dX1_isRow_9 : decode cX1_isRow 9 = .ok (.i2l, 1) := dk_133 (dk_at dksX1_isRow_0 9 rfl rfl)
theorem dX1_isRow_10 : decode cX1_isRow 10 = .ok (.invokestatic 127, 3) := dk_184 0 127 (dk_at dksX1_isRow_0 10 rfl rfl)
theorem dX1_isRow_13 : decode cX1_isRow 13 = .ok (.ireturn, 1) := dk_172 (dk_at dksX1_isRow_0 13 rfl rfl)
abbrev cX1_isIn : ByteArray := prog_1_method_6_code
def yX1_isIn : MethodName := ⟨RX1, "isIn", "(JJJ)Z"⟩
def dkwX1_isIn_0 : List UInt8 := [30, 32, 148, 155, 0, 14, 30, 22, 4, 148, 157, 0, 7, 4, 167, 0, 4, 3, 172]
abbrev dktX1_isIn_0 : List UInt8 := dkwX1_isIn_0 ++ []
theorem dksX1_isIn_0 : cX1_isIn.data.toList.drop 0 = dktX1_isIn_0 := by decide +kernel
theorem dX1_isIn_0 : decode cX1_isIn 0 = .ok (.lload_n 0, 1) := dk_30 (dk_at dksX1_isIn_0 0 rfl rfl)
theorem dX1_isIn_1 : decode cX1_isIn 1 = .ok (.lload_n 2, 1) := dk_32 (dk_at dksX1_isIn_0 1 rfl rfl)
theorem dX1_isIn_2 : decode cX1_isIn 2 = .ok (.lcmp, 1) := dk_148 (dk_at dksX1_isIn_0 2 rfl rfl)
theorem dX1_isIn_3 : decode cX1_isIn 3 = .ok (.ifCond .lt 14, 3) := dk_155 0 14 (dk_at dksX1_isIn_0 3 rfl rfl)
theorem dX1_isIn_6 : decode cX1_isIn 6 = .ok (.lload_n 0, 1) := dk_30 (dk_at dksX1_isIn_0 6 rfl rfl)
theorem dX1_isIn_7 : decode cX1_isIn 7 = .ok (.lload 4, 2) := dk_22 4 (dk_at dksX1_isIn_0 7 rfl rfl)
theorem dX1_isIn_9 : decode cX1_isIn 9 = .ok (.lcmp, 1) := dk_148 (dk_at dksX1_isIn_0 9 rfl rfl)
theorem dX1_isIn_10 : decode cX1_isIn 10 = .ok (.ifCond .gt 7, 3) := dk_157 0 7 (dk_at dksX1_isIn_0 10 rfl rfl)
theorem dX1_isIn_13 : decode cX1_isIn 13 = .ok (.iconst 1, 1) := dk_4 (dk_at dksX1_isIn_0 13 rfl rfl)
theorem dX1_isIn_14 : decode cX1_isIn 14 = .ok (.goto 4, 3) := dk_167 0 4 (dk_at dksX1_isIn_0 14 rfl rfl)
theorem dX1_isIn_17 : decode cX1_isIn 17 = .ok (.iconst 0, 1) := dk_3 (dk_at dksX1_isIn_0 17 rfl rfl)
theorem dX1_isIn_18 : decode cX1_isIn 18 = .ok (.ireturn, 1) := dk_172 (dk_at dksX1_isIn_0 18 rfl rfl)
abbrev cX1_needPlace : ByteArray := prog_1_method_7_code
def yX1_needPlace : MethodName := ⟨RX1, "needPlace", "(Z)V"⟩
def dkwX1_needPlace_0 : List UInt8 := [26, 154, 0, 11, 187, 0, 118, 89, 183, 0, 120, 191, 177]
abbrev dktX1_needPlace_0 : List UInt8 := dkwX1_needPlace_0 ++ []
theorem dksX1_needPlace_0 : cX1_needPlace.data.toList.drop 0 = dktX1_needPlace_0 := by decide +kernel
theorem dX1_needPlace_0 : decode cX1_needPlace 0 = .ok (.iload_n 0, 1) := dk_26 (dk_at dksX1_needPlace_0 0 rfl rfl)
theorem dX1_needPlace_1 : decode cX1_needPlace 1 = .ok (.ifCond .ne 11, 3) := dk_154 0 11 (dk_at dksX1_needPlace_0 1 rfl rfl)
theorem dX1_needPlace_4 : decode cX1_needPlace 4 = .ok (.new 118, 3) := dk_187 0 118 (dk_at dksX1_needPlace_0 4 rfl rfl)
theorem dX1_needPlace_7 : decode cX1_needPlace 7 = .ok (.dup, 1) := dk_89 (dk_at dksX1_needPlace_0 7 rfl rfl)
theorem dX1_needPlace_8 : decode cX1_needPlace 8 = .ok (.invokespecial 120, 3) := dk_183 0 120 (dk_at dksX1_needPlace_0 8 rfl rfl)
theorem dX1_needPlace_11 : decode cX1_needPlace 11 = .ok (.athrow, 1) := dk_191 (dk_at dksX1_needPlace_0 11 rfl rfl)
theorem dX1_needPlace_12 : decode cX1_needPlace 12 = .ok (.return_, 1) := dk_177 (dk_at dksX1_needPlace_0 12 rfl rfl)
abbrev cX1_maximum : ByteArray := prog_1_method_59_code
def yX1_maximum : MethodName := ⟨RX1, "maximum", "()I"⟩
def dkwX1_maximum_4 : List UInt8 := [180, 0, 7, 104, 27, 100, 172]
abbrev dktX1_maximum_4 : List UInt8 := dkwX1_maximum_4 ++ []
def dkwX1_maximum_3 : List UInt8 := [167, 255, 197, 42, 182, 1, 30, 60, 27, 17, 39, 16, 161, 0, 7, 2, 167, 0, 12, 16, 99, 42]
abbrev dktX1_maximum_3 : List UInt8 := dkwX1_maximum_3 ++ dktX1_maximum_4
def dkwX1_maximum_2 : List UInt8 := [160, 0, 9, 17, 39, 16, 167, 0, 7, 16, 99, 29, 100, 79, 132, 2, 1, 167, 255, 213, 132, 1, 1]
abbrev dktX1_maximum_2 : List UInt8 := dkwX1_maximum_2 ++ dktX1_maximum_3
def dkwX1_maximum_1 : List UInt8 := [180, 0, 7, 162, 0, 41, 42, 27, 28, 182, 0, 204, 62, 42, 180, 0, 35, 27, 50, 28, 29, 17, 3, 232]
abbrev dktX1_maximum_1 : List UInt8 := dkwX1_maximum_1 ++ dktX1_maximum_2
def dkwX1_maximum_0 : List UInt8 := [42, 42, 180, 0, 7, 181, 0, 237, 3, 60, 27, 42, 180, 0, 7, 162, 0, 57, 3, 61, 28, 42]
abbrev dktX1_maximum_0 : List UInt8 := dkwX1_maximum_0 ++ dktX1_maximum_1
theorem dksX1_maximum_0 : cX1_maximum.data.toList.drop 0 = dktX1_maximum_0 := by decide +kernel
theorem dksX1_maximum_1 : cX1_maximum.data.toList.drop 22 = dktX1_maximum_1 := dk_seg dksX1_maximum_0 22 rfl rfl
theorem dksX1_maximum_2 : cX1_maximum.data.toList.drop 46 = dktX1_maximum_2 := dk_seg dksX1_maximum_1 24 rfl rfl
theorem dksX1_maximum_3 : cX1_maximum.data.toList.drop 69 = dktX1_maximum_3 := dk_seg dksX1_maximum_2 23 rfl rfl
theorem dksX1_maximum_4 : cX1_maximum.data.toList.drop 91 = dktX1_maximum_4 := dk_seg dksX1_maximum_3 22 rfl rfl
theorem dX1_maximum_0 : decode cX1_maximum 0 = .ok (.aload_n 0, 1) := dk_42 (dk_at dksX1_maximum_0 0 rfl rfl)
theorem dX1_maximum_1 : decode cX1_maximum 1 = .ok (.aload_n 0, 1) := dk_42 (dk_at dksX1_maximum_0 1 rfl rfl)
theorem dX1_maximum_2 : decode cX1_maximum 2 = .ok (.getfield 7, 3) := dk_180 0 7 (dk_at dksX1_maximum_0 2 rfl rfl)
theorem dX1_maximum_5 : decode cX1_maximum 5 = .ok (.putfield 237, 3) := dk_181 0 237 (dk_at dksX1_maximum_0 5 rfl rfl)
theorem dX1_maximum_8 : decode cX1_maximum 8 = .ok (.iconst 0, 1) := dk_3 (dk_at dksX1_maximum_0 8 rfl rfl)
theorem dX1_maximum_9 : decode cX1_maximum 9 = .ok (.istore_n 1, 1) := dk_60 (dk_at dksX1_maximum_0 9 rfl rfl)
theorem dX1_maximum_10 : decode cX1_maximum 10 = .ok (.iload_n 1, 1) := dk_27 (dk_at dksX1_maximum_0 10 rfl rfl)
theorem dX1_maximum_11 : decode cX1_maximum 11 = .ok (.aload_n 0, 1) := dk_42 (dk_at dksX1_maximum_0 11 rfl rfl)
theorem dX1_maximum_12 : decode cX1_maximum 12 = .ok (.getfield 7, 3) := dk_180 0 7 (dk_at dksX1_maximum_0 12 rfl rfl)
theorem dX1_maximum_15 : decode cX1_maximum 15 = .ok (.if_icmp .ge 57, 3) := dk_162 0 57 (dk_at dksX1_maximum_0 15 rfl rfl)
theorem dX1_maximum_18 : decode cX1_maximum 18 = .ok (.iconst 0, 1) := dk_3 (dk_at dksX1_maximum_0 18 rfl rfl)
theorem dX1_maximum_19 : decode cX1_maximum 19 = .ok (.istore_n 2, 1) := dk_61 (dk_at dksX1_maximum_0 19 rfl rfl)
theorem dX1_maximum_20 : decode cX1_maximum 20 = .ok (.iload_n 2, 1) := dk_28 (dk_at dksX1_maximum_0 20 rfl rfl)
theorem dX1_maximum_21 : decode cX1_maximum 21 = .ok (.aload_n 0, 1) := dk_42 (dk_at dksX1_maximum_0 21 rfl rfl)
theorem dX1_maximum_22 : decode cX1_maximum 22 = .ok (.getfield 7, 3) := dk_180 0 7 (dk_at dksX1_maximum_1 0 rfl rfl)
theorem dX1_maximum_25 : decode cX1_maximum 25 = .ok (.if_icmp .ge 41, 3) := dk_162 0 41 (dk_at dksX1_maximum_1 3 rfl rfl)
theorem dX1_maximum_28 : decode cX1_maximum 28 = .ok (.aload_n 0, 1) := dk_42 (dk_at dksX1_maximum_1 6 rfl rfl)
theorem dX1_maximum_29 : decode cX1_maximum 29 = .ok (.iload_n 1, 1) := dk_27 (dk_at dksX1_maximum_1 7 rfl rfl)
theorem dX1_maximum_30 : decode cX1_maximum 30 = .ok (.iload_n 2, 1) := dk_28 (dk_at dksX1_maximum_1 8 rfl rfl)
theorem dX1_maximum_31 : decode cX1_maximum 31 = .ok (.invokevirtual 204, 3) := dk_182 0 204 (dk_at dksX1_maximum_1 9 rfl rfl)
theorem dX1_maximum_34 : decode cX1_maximum 34 = .ok (.istore_n 3, 1) := dk_62 (dk_at dksX1_maximum_1 12 rfl rfl)
theorem dX1_maximum_35 : decode cX1_maximum 35 = .ok (.aload_n 0, 1) := dk_42 (dk_at dksX1_maximum_1 13 rfl rfl)
theorem dX1_maximum_36 : decode cX1_maximum 36 = .ok (.getfield 35, 3) := dk_180 0 35 (dk_at dksX1_maximum_1 14 rfl rfl)
theorem dX1_maximum_39 : decode cX1_maximum 39 = .ok (.iload_n 1, 1) := dk_27 (dk_at dksX1_maximum_1 17 rfl rfl)
theorem dX1_maximum_40 : decode cX1_maximum 40 = .ok (.aaload, 1) := dk_50 (dk_at dksX1_maximum_1 18 rfl rfl)
theorem dX1_maximum_41 : decode cX1_maximum 41 = .ok (.iload_n 2, 1) := dk_28 (dk_at dksX1_maximum_1 19 rfl rfl)
theorem dX1_maximum_42 : decode cX1_maximum 42 = .ok (.iload_n 3, 1) := dk_29 (dk_at dksX1_maximum_1 20 rfl rfl)
theorem dX1_maximum_43 : decode cX1_maximum 43 = .ok (.sipush 1000, 3) := dk_17 3 232 (dk_at dksX1_maximum_1 21 rfl rfl)
theorem dX1_maximum_46 : decode cX1_maximum 46 = .ok (.if_icmp .ne 9, 3) := dk_160 0 9 (dk_at dksX1_maximum_2 0 rfl rfl)
theorem dX1_maximum_49 : decode cX1_maximum 49 = .ok (.sipush 10000, 3) := dk_17 39 16 (dk_at dksX1_maximum_2 3 rfl rfl)
theorem dX1_maximum_52 : decode cX1_maximum 52 = .ok (.goto 7, 3) := dk_167 0 7 (dk_at dksX1_maximum_2 6 rfl rfl)
theorem dX1_maximum_55 : decode cX1_maximum 55 = .ok (.bipush 99, 2) := dk_16 99 (dk_at dksX1_maximum_2 9 rfl rfl)
theorem dX1_maximum_57 : decode cX1_maximum 57 = .ok (.iload_n 3, 1) := dk_29 (dk_at dksX1_maximum_2 11 rfl rfl)
theorem dX1_maximum_58 : decode cX1_maximum 58 = .ok (.isub, 1) := dk_100 (dk_at dksX1_maximum_2 12 rfl rfl)
theorem dX1_maximum_59 : decode cX1_maximum 59 = .ok (.iastore, 1) := dk_79 (dk_at dksX1_maximum_2 13 rfl rfl)
theorem dX1_maximum_60 : decode cX1_maximum 60 = .ok (.iinc 2 1, 3) := dk_132 2 1 (dk_at dksX1_maximum_2 14 rfl rfl)
theorem dX1_maximum_63 : decode cX1_maximum 63 = .ok (.goto (-43), 3) := dk_167 255 213 (dk_at dksX1_maximum_2 17 rfl rfl)
theorem dX1_maximum_66 : decode cX1_maximum 66 = .ok (.iinc 1 1, 3) := dk_132 1 1 (dk_at dksX1_maximum_2 20 rfl rfl)
theorem dX1_maximum_69 : decode cX1_maximum 69 = .ok (.goto (-59), 3) := dk_167 255 197 (dk_at dksX1_maximum_3 0 rfl rfl)
theorem dX1_maximum_72 : decode cX1_maximum 72 = .ok (.aload_n 0, 1) := dk_42 (dk_at dksX1_maximum_3 3 rfl rfl)
theorem dX1_maximum_73 : decode cX1_maximum 73 = .ok (.invokevirtual 286, 3) := dk_182 1 30 (dk_at dksX1_maximum_3 4 rfl rfl)
theorem dX1_maximum_76 : decode cX1_maximum 76 = .ok (.istore_n 1, 1) := dk_60 (dk_at dksX1_maximum_3 7 rfl rfl)
theorem dX1_maximum_77 : decode cX1_maximum 77 = .ok (.iload_n 1, 1) := dk_27 (dk_at dksX1_maximum_3 8 rfl rfl)
theorem dX1_maximum_78 : decode cX1_maximum 78 = .ok (.sipush 10000, 3) := dk_17 39 16 (dk_at dksX1_maximum_3 9 rfl rfl)
theorem dX1_maximum_81 : decode cX1_maximum 81 = .ok (.if_icmp .lt 7, 3) := dk_161 0 7 (dk_at dksX1_maximum_3 12 rfl rfl)
theorem dX1_maximum_84 : decode cX1_maximum 84 = .ok (.iconst (-1), 1) := dk_2 (dk_at dksX1_maximum_3 15 rfl rfl)
theorem dX1_maximum_85 : decode cX1_maximum 85 = .ok (.goto 12, 3) := dk_167 0 12 (dk_at dksX1_maximum_3 16 rfl rfl)
theorem dX1_maximum_88 : decode cX1_maximum 88 = .ok (.bipush 99, 2) := dk_16 99 (dk_at dksX1_maximum_3 19 rfl rfl)
theorem dX1_maximum_90 : decode cX1_maximum 90 = .ok (.aload_n 0, 1) := dk_42 (dk_at dksX1_maximum_3 21 rfl rfl)
theorem dX1_maximum_91 : decode cX1_maximum 91 = .ok (.getfield 7, 3) := dk_180 0 7 (dk_at dksX1_maximum_4 0 rfl rfl)
theorem dX1_maximum_94 : decode cX1_maximum 94 = .ok (.imul, 1) := dk_104 (dk_at dksX1_maximum_4 3 rfl rfl)
theorem dX1_maximum_95 : decode cX1_maximum 95 = .ok (.iload_n 1, 1) := dk_27 (dk_at dksX1_maximum_4 4 rfl rfl)
theorem dX1_maximum_96 : decode cX1_maximum 96 = .ok (.isub, 1) := dk_100 (dk_at dksX1_maximum_4 5 rfl rfl)
theorem dX1_maximum_97 : decode cX1_maximum 97 = .ok (.ireturn, 1) := dk_172 (dk_at dksX1_maximum_4 6 rfl rfl)
abbrev cX1_bottleneck : ByteArray := prog_1_method_62_code
def yX1_bottleneck : MethodName := ⟨RX1, "bottleneck", "()I"⟩
def dkwX1_bottleneck_2 : List UInt8 := [167, 255, 228, 27, 172]
abbrev dktX1_bottleneck_2 : List UInt8 := dkwX1_bottleneck_2 ++ []
def dkwX1_bottleneck_1 : List UInt8 := [28, 96, 5, 108, 62, 42, 29, 182, 1, 49, 153, 0, 8, 29, 61, 167, 0, 7, 29, 4, 96, 60]
abbrev dktX1_bottleneck_1 : List UInt8 := dkwX1_bottleneck_1 ++ dktX1_bottleneck_2
def dkwX1_bottleneck_0 : List UInt8 := [42, 16, 99, 182, 1, 49, 154, 0, 7, 17, 3, 232, 172, 3, 60, 16, 99, 61, 27, 28, 162, 0, 29, 27]
abbrev dktX1_bottleneck_0 : List UInt8 := dkwX1_bottleneck_0 ++ dktX1_bottleneck_1
theorem dksX1_bottleneck_0 : cX1_bottleneck.data.toList.drop 0 = dktX1_bottleneck_0 := by decide +kernel
theorem dksX1_bottleneck_1 : cX1_bottleneck.data.toList.drop 24 = dktX1_bottleneck_1 := dk_seg dksX1_bottleneck_0 24 rfl rfl
theorem dksX1_bottleneck_2 : cX1_bottleneck.data.toList.drop 46 = dktX1_bottleneck_2 := dk_seg dksX1_bottleneck_1 22 rfl rfl
theorem dX1_bottleneck_0 : decode cX1_bottleneck 0 = .ok (.aload_n 0, 1) := dk_42 (dk_at dksX1_bottleneck_0 0 rfl rfl)
theorem dX1_bottleneck_1 : decode cX1_bottleneck 1 = .ok (.bipush 99, 2) := dk_16 99 (dk_at dksX1_bottleneck_0 1 rfl rfl)
theorem dX1_bottleneck_3 : decode cX1_bottleneck 3 = .ok (.invokevirtual 305, 3) := dk_182 1 49 (dk_at dksX1_bottleneck_0 3 rfl rfl)
theorem dX1_bottleneck_6 : decode cX1_bottleneck 6 = .ok (.ifCond .ne 7, 3) := dk_154 0 7 (dk_at dksX1_bottleneck_0 6 rfl rfl)
theorem dX1_bottleneck_9 : decode cX1_bottleneck 9 = .ok (.sipush 1000, 3) := dk_17 3 232 (dk_at dksX1_bottleneck_0 9 rfl rfl)
theorem dX1_bottleneck_12 : decode cX1_bottleneck 12 = .ok (.ireturn, 1) := dk_172 (dk_at dksX1_bottleneck_0 12 rfl rfl)
theorem dX1_bottleneck_13 : decode cX1_bottleneck 13 = .ok (.iconst 0, 1) := dk_3 (dk_at dksX1_bottleneck_0 13 rfl rfl)
theorem dX1_bottleneck_14 : decode cX1_bottleneck 14 = .ok (.istore_n 1, 1) := dk_60 (dk_at dksX1_bottleneck_0 14 rfl rfl)
theorem dX1_bottleneck_15 : decode cX1_bottleneck 15 = .ok (.bipush 99, 2) := dk_16 99 (dk_at dksX1_bottleneck_0 15 rfl rfl)
theorem dX1_bottleneck_17 : decode cX1_bottleneck 17 = .ok (.istore_n 2, 1) := dk_61 (dk_at dksX1_bottleneck_0 17 rfl rfl)
theorem dX1_bottleneck_18 : decode cX1_bottleneck 18 = .ok (.iload_n 1, 1) := dk_27 (dk_at dksX1_bottleneck_0 18 rfl rfl)
theorem dX1_bottleneck_19 : decode cX1_bottleneck 19 = .ok (.iload_n 2, 1) := dk_28 (dk_at dksX1_bottleneck_0 19 rfl rfl)
theorem dX1_bottleneck_20 : decode cX1_bottleneck 20 = .ok (.if_icmp .ge 29, 3) := dk_162 0 29 (dk_at dksX1_bottleneck_0 20 rfl rfl)
theorem dX1_bottleneck_23 : decode cX1_bottleneck 23 = .ok (.iload_n 1, 1) := dk_27 (dk_at dksX1_bottleneck_0 23 rfl rfl)
theorem dX1_bottleneck_24 : decode cX1_bottleneck 24 = .ok (.iload_n 2, 1) := dk_28 (dk_at dksX1_bottleneck_1 0 rfl rfl)
theorem dX1_bottleneck_25 : decode cX1_bottleneck 25 = .ok (.iadd, 1) := dk_96 (dk_at dksX1_bottleneck_1 1 rfl rfl)
theorem dX1_bottleneck_26 : decode cX1_bottleneck 26 = .ok (.iconst 2, 1) := dk_5 (dk_at dksX1_bottleneck_1 2 rfl rfl)
theorem dX1_bottleneck_27 : decode cX1_bottleneck 27 = .ok (.idiv, 1) := dk_108 (dk_at dksX1_bottleneck_1 3 rfl rfl)
theorem dX1_bottleneck_28 : decode cX1_bottleneck 28 = .ok (.istore_n 3, 1) := dk_62 (dk_at dksX1_bottleneck_1 4 rfl rfl)
theorem dX1_bottleneck_29 : decode cX1_bottleneck 29 = .ok (.aload_n 0, 1) := dk_42 (dk_at dksX1_bottleneck_1 5 rfl rfl)
theorem dX1_bottleneck_30 : decode cX1_bottleneck 30 = .ok (.iload_n 3, 1) := dk_29 (dk_at dksX1_bottleneck_1 6 rfl rfl)
theorem dX1_bottleneck_31 : decode cX1_bottleneck 31 = .ok (.invokevirtual 305, 3) := dk_182 1 49 (dk_at dksX1_bottleneck_1 7 rfl rfl)
theorem dX1_bottleneck_34 : decode cX1_bottleneck 34 = .ok (.ifCond .eq 8, 3) := dk_153 0 8 (dk_at dksX1_bottleneck_1 10 rfl rfl)
theorem dX1_bottleneck_37 : decode cX1_bottleneck 37 = .ok (.iload_n 3, 1) := dk_29 (dk_at dksX1_bottleneck_1 13 rfl rfl)
theorem dX1_bottleneck_38 : decode cX1_bottleneck 38 = .ok (.istore_n 2, 1) := dk_61 (dk_at dksX1_bottleneck_1 14 rfl rfl)
theorem dX1_bottleneck_39 : decode cX1_bottleneck 39 = .ok (.goto 7, 3) := dk_167 0 7 (dk_at dksX1_bottleneck_1 15 rfl rfl)
theorem dX1_bottleneck_42 : decode cX1_bottleneck 42 = .ok (.iload_n 3, 1) := dk_29 (dk_at dksX1_bottleneck_1 18 rfl rfl)
theorem dX1_bottleneck_43 : decode cX1_bottleneck 43 = .ok (.iconst 1, 1) := dk_4 (dk_at dksX1_bottleneck_1 19 rfl rfl)
theorem dX1_bottleneck_44 : decode cX1_bottleneck 44 = .ok (.iadd, 1) := dk_96 (dk_at dksX1_bottleneck_1 20 rfl rfl)
theorem dX1_bottleneck_45 : decode cX1_bottleneck 45 = .ok (.istore_n 1, 1) := dk_60 (dk_at dksX1_bottleneck_1 21 rfl rfl)
theorem dX1_bottleneck_46 : decode cX1_bottleneck 46 = .ok (.goto (-28), 3) := dk_167 255 228 (dk_at dksX1_bottleneck_2 0 rfl rfl)
theorem dX1_bottleneck_49 : decode cX1_bottleneck 49 = .ok (.iload_n 1, 1) := dk_27 (dk_at dksX1_bottleneck_2 3 rfl rfl)
theorem dX1_bottleneck_50 : decode cX1_bottleneck 50 = .ok (.ireturn, 1) := dk_172 (dk_at dksX1_bottleneck_2 4 rfl rfl)
abbrev cX1_isEnough : ByteArray := prog_1_method_61_code
def yX1_isEnough : MethodName := ⟨RX1, "isEnough", "(I)Z"⟩
def dkwX1_isEnough_3 : List UInt8 := [182, 1, 45, 61, 132, 3, 1, 167, 255, 208, 28, 172]
abbrev dktX1_isEnough_3 : List UInt8 := dkwX1_isEnough_3 ++ []
def dkwX1_isEnough_2 : List UInt8 := [42, 180, 0, 7, 162, 0, 17, 42, 180, 0, 57, 21, 4, 3, 84, 132, 4, 1, 167, 255, 236, 42, 29, 27]
abbrev dktX1_isEnough_2 : List UInt8 := dkwX1_isEnough_2 ++ dktX1_isEnough_3
def dkwX1_isEnough_1 : List UInt8 := [167, 255, 238, 4, 61, 3, 62, 29, 42, 180, 0, 7, 162, 0, 46, 28, 153, 0, 42, 3, 54, 4, 21, 4]
abbrev dktX1_isEnough_1 : List UInt8 := dkwX1_isEnough_1 ++ dktX1_isEnough_2
def dkwX1_isEnough_0 : List UInt8 := [42, 182, 1, 28, 3, 61, 28, 42, 180, 0, 7, 162, 0, 16, 42, 180, 0, 45, 28, 2, 79, 132, 2, 1]
abbrev dktX1_isEnough_0 : List UInt8 := dkwX1_isEnough_0 ++ dktX1_isEnough_1
theorem dksX1_isEnough_0 : cX1_isEnough.data.toList.drop 0 = dktX1_isEnough_0 := by decide +kernel
theorem dksX1_isEnough_1 : cX1_isEnough.data.toList.drop 24 = dktX1_isEnough_1 := dk_seg dksX1_isEnough_0 24 rfl rfl
theorem dksX1_isEnough_2 : cX1_isEnough.data.toList.drop 48 = dktX1_isEnough_2 := dk_seg dksX1_isEnough_1 24 rfl rfl
theorem dksX1_isEnough_3 : cX1_isEnough.data.toList.drop 72 = dktX1_isEnough_3 := dk_seg dksX1_isEnough_2 24 rfl rfl
theorem dX1_isEnough_0 : decode cX1_isEnough 0 = .ok (.aload_n 0, 1) := dk_42 (dk_at dksX1_isEnough_0 0 rfl rfl)
theorem dX1_isEnough_1 : decode cX1_isEnough 1 = .ok (.invokevirtual 284, 3) := dk_182 1 28 (dk_at dksX1_isEnough_0 1 rfl rfl)
theorem dX1_isEnough_4 : decode cX1_isEnough 4 = .ok (.iconst 0, 1) := dk_3 (dk_at dksX1_isEnough_0 4 rfl rfl)
theorem dX1_isEnough_5 : decode cX1_isEnough 5 = .ok (.istore_n 2, 1) := dk_61 (dk_at dksX1_isEnough_0 5 rfl rfl)
theorem dX1_isEnough_6 : decode cX1_isEnough 6 = .ok (.iload_n 2, 1) := dk_28 (dk_at dksX1_isEnough_0 6 rfl rfl)
theorem dX1_isEnough_7 : decode cX1_isEnough 7 = .ok (.aload_n 0, 1) := dk_42 (dk_at dksX1_isEnough_0 7 rfl rfl)
theorem dX1_isEnough_8 : decode cX1_isEnough 8 = .ok (.getfield 7, 3) := dk_180 0 7 (dk_at dksX1_isEnough_0 8 rfl rfl)
theorem dX1_isEnough_11 : decode cX1_isEnough 11 = .ok (.if_icmp .ge 16, 3) := dk_162 0 16 (dk_at dksX1_isEnough_0 11 rfl rfl)
theorem dX1_isEnough_14 : decode cX1_isEnough 14 = .ok (.aload_n 0, 1) := dk_42 (dk_at dksX1_isEnough_0 14 rfl rfl)
theorem dX1_isEnough_15 : decode cX1_isEnough 15 = .ok (.getfield 45, 3) := dk_180 0 45 (dk_at dksX1_isEnough_0 15 rfl rfl)
theorem dX1_isEnough_18 : decode cX1_isEnough 18 = .ok (.iload_n 2, 1) := dk_28 (dk_at dksX1_isEnough_0 18 rfl rfl)
theorem dX1_isEnough_19 : decode cX1_isEnough 19 = .ok (.iconst (-1), 1) := dk_2 (dk_at dksX1_isEnough_0 19 rfl rfl)
theorem dX1_isEnough_20 : decode cX1_isEnough 20 = .ok (.iastore, 1) := dk_79 (dk_at dksX1_isEnough_0 20 rfl rfl)
theorem dX1_isEnough_21 : decode cX1_isEnough 21 = .ok (.iinc 2 1, 3) := dk_132 2 1 (dk_at dksX1_isEnough_0 21 rfl rfl)
theorem dX1_isEnough_24 : decode cX1_isEnough 24 = .ok (.goto (-18), 3) := dk_167 255 238 (dk_at dksX1_isEnough_1 0 rfl rfl)
theorem dX1_isEnough_27 : decode cX1_isEnough 27 = .ok (.iconst 1, 1) := dk_4 (dk_at dksX1_isEnough_1 3 rfl rfl)
theorem dX1_isEnough_28 : decode cX1_isEnough 28 = .ok (.istore_n 2, 1) := dk_61 (dk_at dksX1_isEnough_1 4 rfl rfl)
theorem dX1_isEnough_29 : decode cX1_isEnough 29 = .ok (.iconst 0, 1) := dk_3 (dk_at dksX1_isEnough_1 5 rfl rfl)
theorem dX1_isEnough_30 : decode cX1_isEnough 30 = .ok (.istore_n 3, 1) := dk_62 (dk_at dksX1_isEnough_1 6 rfl rfl)
theorem dX1_isEnough_31 : decode cX1_isEnough 31 = .ok (.iload_n 3, 1) := dk_29 (dk_at dksX1_isEnough_1 7 rfl rfl)
theorem dX1_isEnough_32 : decode cX1_isEnough 32 = .ok (.aload_n 0, 1) := dk_42 (dk_at dksX1_isEnough_1 8 rfl rfl)
theorem dX1_isEnough_33 : decode cX1_isEnough 33 = .ok (.getfield 7, 3) := dk_180 0 7 (dk_at dksX1_isEnough_1 9 rfl rfl)
theorem dX1_isEnough_36 : decode cX1_isEnough 36 = .ok (.if_icmp .ge 46, 3) := dk_162 0 46 (dk_at dksX1_isEnough_1 12 rfl rfl)
theorem dX1_isEnough_39 : decode cX1_isEnough 39 = .ok (.iload_n 2, 1) := dk_28 (dk_at dksX1_isEnough_1 15 rfl rfl)
theorem dX1_isEnough_40 : decode cX1_isEnough 40 = .ok (.ifCond .eq 42, 3) := dk_153 0 42 (dk_at dksX1_isEnough_1 16 rfl rfl)
theorem dX1_isEnough_43 : decode cX1_isEnough 43 = .ok (.iconst 0, 1) := dk_3 (dk_at dksX1_isEnough_1 19 rfl rfl)
theorem dX1_isEnough_44 : decode cX1_isEnough 44 = .ok (.istore 4, 2) := dk_54 4 (dk_at dksX1_isEnough_1 20 rfl rfl)
theorem dX1_isEnough_46 : decode cX1_isEnough 46 = .ok (.iload 4, 2) := dk_21 4 (dk_at dksX1_isEnough_1 22 rfl rfl)
theorem dX1_isEnough_48 : decode cX1_isEnough 48 = .ok (.aload_n 0, 1) := dk_42 (dk_at dksX1_isEnough_2 0 rfl rfl)
theorem dX1_isEnough_49 : decode cX1_isEnough 49 = .ok (.getfield 7, 3) := dk_180 0 7 (dk_at dksX1_isEnough_2 1 rfl rfl)
theorem dX1_isEnough_52 : decode cX1_isEnough 52 = .ok (.if_icmp .ge 17, 3) := dk_162 0 17 (dk_at dksX1_isEnough_2 4 rfl rfl)
theorem dX1_isEnough_55 : decode cX1_isEnough 55 = .ok (.aload_n 0, 1) := dk_42 (dk_at dksX1_isEnough_2 7 rfl rfl)
theorem dX1_isEnough_56 : decode cX1_isEnough 56 = .ok (.getfield 57, 3) := dk_180 0 57 (dk_at dksX1_isEnough_2 8 rfl rfl)
theorem dX1_isEnough_59 : decode cX1_isEnough 59 = .ok (.iload 4, 2) := dk_21 4 (dk_at dksX1_isEnough_2 11 rfl rfl)
theorem dX1_isEnough_61 : decode cX1_isEnough 61 = .ok (.iconst 0, 1) := dk_3 (dk_at dksX1_isEnough_2 13 rfl rfl)
theorem dX1_isEnough_62 : decode cX1_isEnough 62 = .ok (.bastore, 1) := dk_84 (dk_at dksX1_isEnough_2 14 rfl rfl)
theorem dX1_isEnough_63 : decode cX1_isEnough 63 = .ok (.iinc 4 1, 3) := dk_132 4 1 (dk_at dksX1_isEnough_2 15 rfl rfl)
theorem dX1_isEnough_66 : decode cX1_isEnough 66 = .ok (.goto (-20), 3) := dk_167 255 236 (dk_at dksX1_isEnough_2 18 rfl rfl)
theorem dX1_isEnough_69 : decode cX1_isEnough 69 = .ok (.aload_n 0, 1) := dk_42 (dk_at dksX1_isEnough_2 21 rfl rfl)
theorem dX1_isEnough_70 : decode cX1_isEnough 70 = .ok (.iload_n 3, 1) := dk_29 (dk_at dksX1_isEnough_2 22 rfl rfl)
theorem dX1_isEnough_71 : decode cX1_isEnough 71 = .ok (.iload_n 1, 1) := dk_27 (dk_at dksX1_isEnough_2 23 rfl rfl)
theorem dX1_isEnough_72 : decode cX1_isEnough 72 = .ok (.invokevirtual 301, 3) := dk_182 1 45 (dk_at dksX1_isEnough_3 0 rfl rfl)
theorem dX1_isEnough_75 : decode cX1_isEnough 75 = .ok (.istore_n 2, 1) := dk_61 (dk_at dksX1_isEnough_3 3 rfl rfl)
theorem dX1_isEnough_76 : decode cX1_isEnough 76 = .ok (.iinc 3 1, 3) := dk_132 3 1 (dk_at dksX1_isEnough_3 4 rfl rfl)
theorem dX1_isEnough_79 : decode cX1_isEnough 79 = .ok (.goto (-48), 3) := dk_167 255 208 (dk_at dksX1_isEnough_3 7 rfl rfl)
theorem dX1_isEnough_82 : decode cX1_isEnough 82 = .ok (.iload_n 2, 1) := dk_28 (dk_at dksX1_isEnough_3 10 rfl rfl)
theorem dX1_isEnough_83 : decode cX1_isEnough 83 = .ok (.ireturn, 1) := dk_172 (dk_at dksX1_isEnough_3 11 rfl rfl)
abbrev cX1_seeks : ByteArray := prog_1_method_60_code
def yX1_seeks : MethodName := ⟨RX1, "seeks", "(II)Z"⟩
def dkwX1_seeks_3 : List UInt8 := [4, 172, 132, 3, 1, 167, 255, 181, 3, 172]
abbrev dktX1_seeks_3 : List UInt8 := dkwX1_seeks_3 ++ []
def dkwX1_seeks_2 : List UInt8 := [159, 0, 17, 42, 42, 180, 0, 45, 29, 46, 28, 182, 1, 45, 153, 0, 12, 42, 180, 0, 45, 29, 27, 79]
abbrev dktX1_seeks_2 : List UInt8 := dkwX1_seeks_2 ++ dktX1_seeks_3
def dkwX1_seeks_1 : List UInt8 := [50, 29, 46, 28, 164, 0, 6, 167, 0, 43, 42, 180, 0, 57, 29, 4, 84, 42, 180, 0, 45, 29, 46, 2]
abbrev dktX1_seeks_1 : List UInt8 := dkwX1_seeks_1 ++ dktX1_seeks_2
def dkwX1_seeks_0 : List UInt8 := [3, 62, 29, 42, 180, 0, 7, 162, 0, 73, 42, 180, 0, 57, 29, 51, 154, 0, 58, 42, 180, 0, 35, 27]
abbrev dktX1_seeks_0 : List UInt8 := dkwX1_seeks_0 ++ dktX1_seeks_1
theorem dksX1_seeks_0 : cX1_seeks.data.toList.drop 0 = dktX1_seeks_0 := by decide +kernel
theorem dksX1_seeks_1 : cX1_seeks.data.toList.drop 24 = dktX1_seeks_1 := dk_seg dksX1_seeks_0 24 rfl rfl
theorem dksX1_seeks_2 : cX1_seeks.data.toList.drop 48 = dktX1_seeks_2 := dk_seg dksX1_seeks_1 24 rfl rfl
theorem dksX1_seeks_3 : cX1_seeks.data.toList.drop 72 = dktX1_seeks_3 := dk_seg dksX1_seeks_2 24 rfl rfl
theorem dX1_seeks_0 : decode cX1_seeks 0 = .ok (.iconst 0, 1) := dk_3 (dk_at dksX1_seeks_0 0 rfl rfl)
theorem dX1_seeks_1 : decode cX1_seeks 1 = .ok (.istore_n 3, 1) := dk_62 (dk_at dksX1_seeks_0 1 rfl rfl)
theorem dX1_seeks_2 : decode cX1_seeks 2 = .ok (.iload_n 3, 1) := dk_29 (dk_at dksX1_seeks_0 2 rfl rfl)
theorem dX1_seeks_3 : decode cX1_seeks 3 = .ok (.aload_n 0, 1) := dk_42 (dk_at dksX1_seeks_0 3 rfl rfl)
theorem dX1_seeks_4 : decode cX1_seeks 4 = .ok (.getfield 7, 3) := dk_180 0 7 (dk_at dksX1_seeks_0 4 rfl rfl)
theorem dX1_seeks_7 : decode cX1_seeks 7 = .ok (.if_icmp .ge 73, 3) := dk_162 0 73 (dk_at dksX1_seeks_0 7 rfl rfl)
theorem dX1_seeks_10 : decode cX1_seeks 10 = .ok (.aload_n 0, 1) := dk_42 (dk_at dksX1_seeks_0 10 rfl rfl)
theorem dX1_seeks_11 : decode cX1_seeks 11 = .ok (.getfield 57, 3) := dk_180 0 57 (dk_at dksX1_seeks_0 11 rfl rfl)
theorem dX1_seeks_14 : decode cX1_seeks 14 = .ok (.iload_n 3, 1) := dk_29 (dk_at dksX1_seeks_0 14 rfl rfl)
theorem dX1_seeks_15 : decode cX1_seeks 15 = .ok (.baload, 1) := dk_51 (dk_at dksX1_seeks_0 15 rfl rfl)
theorem dX1_seeks_16 : decode cX1_seeks 16 = .ok (.ifCond .ne 58, 3) := dk_154 0 58 (dk_at dksX1_seeks_0 16 rfl rfl)
theorem dX1_seeks_19 : decode cX1_seeks 19 = .ok (.aload_n 0, 1) := dk_42 (dk_at dksX1_seeks_0 19 rfl rfl)
theorem dX1_seeks_20 : decode cX1_seeks 20 = .ok (.getfield 35, 3) := dk_180 0 35 (dk_at dksX1_seeks_0 20 rfl rfl)
theorem dX1_seeks_23 : decode cX1_seeks 23 = .ok (.iload_n 1, 1) := dk_27 (dk_at dksX1_seeks_0 23 rfl rfl)
theorem dX1_seeks_24 : decode cX1_seeks 24 = .ok (.aaload, 1) := dk_50 (dk_at dksX1_seeks_1 0 rfl rfl)
theorem dX1_seeks_25 : decode cX1_seeks 25 = .ok (.iload_n 3, 1) := dk_29 (dk_at dksX1_seeks_1 1 rfl rfl)
theorem dX1_seeks_26 : decode cX1_seeks 26 = .ok (.iaload, 1) := dk_46 (dk_at dksX1_seeks_1 2 rfl rfl)
theorem dX1_seeks_27 : decode cX1_seeks 27 = .ok (.iload_n 2, 1) := dk_28 (dk_at dksX1_seeks_1 3 rfl rfl)
theorem dX1_seeks_28 : decode cX1_seeks 28 = .ok (.if_icmp .le 6, 3) := dk_164 0 6 (dk_at dksX1_seeks_1 4 rfl rfl)
theorem dX1_seeks_31 : decode cX1_seeks 31 = .ok (.goto 43, 3) := dk_167 0 43 (dk_at dksX1_seeks_1 7 rfl rfl)
theorem dX1_seeks_34 : decode cX1_seeks 34 = .ok (.aload_n 0, 1) := dk_42 (dk_at dksX1_seeks_1 10 rfl rfl)
theorem dX1_seeks_35 : decode cX1_seeks 35 = .ok (.getfield 57, 3) := dk_180 0 57 (dk_at dksX1_seeks_1 11 rfl rfl)
theorem dX1_seeks_38 : decode cX1_seeks 38 = .ok (.iload_n 3, 1) := dk_29 (dk_at dksX1_seeks_1 14 rfl rfl)
theorem dX1_seeks_39 : decode cX1_seeks 39 = .ok (.iconst 1, 1) := dk_4 (dk_at dksX1_seeks_1 15 rfl rfl)
theorem dX1_seeks_40 : decode cX1_seeks 40 = .ok (.bastore, 1) := dk_84 (dk_at dksX1_seeks_1 16 rfl rfl)
theorem dX1_seeks_41 : decode cX1_seeks 41 = .ok (.aload_n 0, 1) := dk_42 (dk_at dksX1_seeks_1 17 rfl rfl)
theorem dX1_seeks_42 : decode cX1_seeks 42 = .ok (.getfield 45, 3) := dk_180 0 45 (dk_at dksX1_seeks_1 18 rfl rfl)
theorem dX1_seeks_45 : decode cX1_seeks 45 = .ok (.iload_n 3, 1) := dk_29 (dk_at dksX1_seeks_1 21 rfl rfl)
theorem dX1_seeks_46 : decode cX1_seeks 46 = .ok (.iaload, 1) := dk_46 (dk_at dksX1_seeks_1 22 rfl rfl)
theorem dX1_seeks_47 : decode cX1_seeks 47 = .ok (.iconst (-1), 1) := dk_2 (dk_at dksX1_seeks_1 23 rfl rfl)
theorem dX1_seeks_48 : decode cX1_seeks 48 = .ok (.if_icmp .eq 17, 3) := dk_159 0 17 (dk_at dksX1_seeks_2 0 rfl rfl)
theorem dX1_seeks_51 : decode cX1_seeks 51 = .ok (.aload_n 0, 1) := dk_42 (dk_at dksX1_seeks_2 3 rfl rfl)
theorem dX1_seeks_52 : decode cX1_seeks 52 = .ok (.aload_n 0, 1) := dk_42 (dk_at dksX1_seeks_2 4 rfl rfl)
theorem dX1_seeks_53 : decode cX1_seeks 53 = .ok (.getfield 45, 3) := dk_180 0 45 (dk_at dksX1_seeks_2 5 rfl rfl)
theorem dX1_seeks_56 : decode cX1_seeks 56 = .ok (.iload_n 3, 1) := dk_29 (dk_at dksX1_seeks_2 8 rfl rfl)
theorem dX1_seeks_57 : decode cX1_seeks 57 = .ok (.iaload, 1) := dk_46 (dk_at dksX1_seeks_2 9 rfl rfl)
theorem dX1_seeks_58 : decode cX1_seeks 58 = .ok (.iload_n 2, 1) := dk_28 (dk_at dksX1_seeks_2 10 rfl rfl)
theorem dX1_seeks_59 : decode cX1_seeks 59 = .ok (.invokevirtual 301, 3) := dk_182 1 45 (dk_at dksX1_seeks_2 11 rfl rfl)
theorem dX1_seeks_62 : decode cX1_seeks 62 = .ok (.ifCond .eq 12, 3) := dk_153 0 12 (dk_at dksX1_seeks_2 14 rfl rfl)
theorem dX1_seeks_65 : decode cX1_seeks 65 = .ok (.aload_n 0, 1) := dk_42 (dk_at dksX1_seeks_2 17 rfl rfl)
theorem dX1_seeks_66 : decode cX1_seeks 66 = .ok (.getfield 45, 3) := dk_180 0 45 (dk_at dksX1_seeks_2 18 rfl rfl)
theorem dX1_seeks_69 : decode cX1_seeks 69 = .ok (.iload_n 3, 1) := dk_29 (dk_at dksX1_seeks_2 21 rfl rfl)
theorem dX1_seeks_70 : decode cX1_seeks 70 = .ok (.iload_n 1, 1) := dk_27 (dk_at dksX1_seeks_2 22 rfl rfl)
theorem dX1_seeks_71 : decode cX1_seeks 71 = .ok (.iastore, 1) := dk_79 (dk_at dksX1_seeks_2 23 rfl rfl)
theorem dX1_seeks_72 : decode cX1_seeks 72 = .ok (.iconst 1, 1) := dk_4 (dk_at dksX1_seeks_3 0 rfl rfl)
theorem dX1_seeks_73 : decode cX1_seeks 73 = .ok (.ireturn, 1) := dk_172 (dk_at dksX1_seeks_3 1 rfl rfl)
theorem dX1_seeks_74 : decode cX1_seeks 74 = .ok (.iinc 3 1, 3) := dk_132 3 1 (dk_at dksX1_seeks_3 2 rfl rfl)
theorem dX1_seeks_77 : decode cX1_seeks 77 = .ok (.goto (-75), 3) := dk_167 255 181 (dk_at dksX1_seeks_3 5 rfl rfl)
theorem dX1_seeks_80 : decode cX1_seeks 80 = .ok (.iconst 0, 1) := dk_3 (dk_at dksX1_seeks_3 8 rfl rfl)
theorem dX1_seeks_81 : decode cX1_seeks 81 = .ok (.ireturn, 1) := dk_172 (dk_at dksX1_seeks_3 9 rfl rfl)
abbrev cX1_stepsMade : ByteArray := prog_1_method_71_code
def yX1_stepsMade : MethodName := ⟨RX1, "stepsMade", "()I"⟩
def dkwX1_stepsMade_0 : List UInt8 := [42, 180, 0, 147, 153, 0, 10, 42, 180, 0, 151, 167, 0, 4, 2, 172]
abbrev dktX1_stepsMade_0 : List UInt8 := dkwX1_stepsMade_0 ++ []
theorem dksX1_stepsMade_0 : cX1_stepsMade.data.toList.drop 0 = dktX1_stepsMade_0 := by decide +kernel
theorem dX1_stepsMade_0 : decode cX1_stepsMade 0 = .ok (.aload_n 0, 1) := dk_42 (dk_at dksX1_stepsMade_0 0 rfl rfl)
theorem dX1_stepsMade_1 : decode cX1_stepsMade 1 = .ok (.getfield 147, 3) := dk_180 0 147 (dk_at dksX1_stepsMade_0 1 rfl rfl)
theorem dX1_stepsMade_4 : decode cX1_stepsMade 4 = .ok (.ifCond .eq 10, 3) := dk_153 0 10 (dk_at dksX1_stepsMade_0 4 rfl rfl)
theorem dX1_stepsMade_7 : decode cX1_stepsMade 7 = .ok (.aload_n 0, 1) := dk_42 (dk_at dksX1_stepsMade_0 7 rfl rfl)
theorem dX1_stepsMade_8 : decode cX1_stepsMade 8 = .ok (.getfield 151, 3) := dk_180 0 151 (dk_at dksX1_stepsMade_0 8 rfl rfl)
theorem dX1_stepsMade_11 : decode cX1_stepsMade 11 = .ok (.goto 4, 3) := dk_167 0 4 (dk_at dksX1_stepsMade_0 11 rfl rfl)
theorem dX1_stepsMade_14 : decode cX1_stepsMade 14 = .ok (.iconst (-1), 1) := dk_2 (dk_at dksX1_stepsMade_0 14 rfl rfl)
theorem dX1_stepsMade_15 : decode cX1_stepsMade 15 = .ok (.ireturn, 1) := dk_172 (dk_at dksX1_stepsMade_0 15 rfl rfl)
abbrev cX1_meanCost : ByteArray := prog_1_method_72_code
def yX1_meanCost : MethodName := ⟨RX1, "meanCost", "()D"⟩
def dkwX1_meanCost_0 : List UInt8 := [42, 182, 0, 231, 135, 42, 180, 0, 7, 42, 180, 0, 7, 104, 135, 111, 175]
abbrev dktX1_meanCost_0 : List UInt8 := dkwX1_meanCost_0 ++ []
theorem dksX1_meanCost_0 : cX1_meanCost.data.toList.drop 0 = dktX1_meanCost_0 := by decide +kernel
theorem dX1_meanCost_0 : decode cX1_meanCost 0 = .ok (.aload_n 0, 1) := dk_42 (dk_at dksX1_meanCost_0 0 rfl rfl)
theorem dX1_meanCost_1 : decode cX1_meanCost 1 = .ok (.invokevirtual 231, 3) := dk_182 0 231 (dk_at dksX1_meanCost_0 1 rfl rfl)
theorem dX1_meanCost_4 : decode cX1_meanCost 4 = .ok (.i2d, 1) := dk_135 (dk_at dksX1_meanCost_0 4 rfl rfl)
theorem dX1_meanCost_5 : decode cX1_meanCost 5 = .ok (.aload_n 0, 1) := dk_42 (dk_at dksX1_meanCost_0 5 rfl rfl)
theorem dX1_meanCost_6 : decode cX1_meanCost 6 = .ok (.getfield 7, 3) := dk_180 0 7 (dk_at dksX1_meanCost_0 6 rfl rfl)
theorem dX1_meanCost_9 : decode cX1_meanCost 9 = .ok (.aload_n 0, 1) := dk_42 (dk_at dksX1_meanCost_0 9 rfl rfl)
theorem dX1_meanCost_10 : decode cX1_meanCost 10 = .ok (.getfield 7, 3) := dk_180 0 7 (dk_at dksX1_meanCost_0 10 rfl rfl)
theorem dX1_meanCost_13 : decode cX1_meanCost 13 = .ok (.imul, 1) := dk_104 (dk_at dksX1_meanCost_0 13 rfl rfl)
theorem dX1_meanCost_14 : decode cX1_meanCost 14 = .ok (.i2d, 1) := dk_135 (dk_at dksX1_meanCost_0 14 rfl rfl)
theorem dX1_meanCost_15 : decode cX1_meanCost 15 = .ok (.ddiv, 1) := dk_111 (dk_at dksX1_meanCost_0 15 rfl rfl)
theorem dX1_meanCost_16 : decode cX1_meanCost 16 = .ok (.dreturn, 1) := dk_175 (dk_at dksX1_meanCost_0 16 rfl rfl)
abbrev cX1_checksum : ByteArray := prog_1_method_74_code
def yX1_checksum : MethodName := ⟨RX1, "checksum", "()J"⟩
def dkwX1_checksum_11 : List UInt8 := [132, 4, 1, 167, 255, 202, 31, 173]
abbrev dktX1_checksum_11 : List UInt8 := dkwX1_checksum_11 ++ []
def dkwX1_checksum_10 : List UInt8 := [180, 0, 30, 42, 180, 0, 27, 21, 4, 21, 5, 182, 0, 143, 133, 97, 64, 132, 5, 1, 167, 255, 220]
abbrev dktX1_checksum_10 : List UInt8 := dkwX1_checksum_10 ++ dktX1_checksum_11
def dkwX1_checksum_9 : List UInt8 := [162, 0, 51, 3, 54, 5, 21, 5, 42, 180, 0, 24, 162, 0, 33, 20, 1, 97, 31, 105, 42, 42]
abbrev dktX1_checksum_9 : List UInt8 := dkwX1_checksum_9 ++ dktX1_checksum_10
def dkwX1_checksum_8 : List UInt8 := [180, 0, 24, 133, 97, 105, 42, 180, 0, 27, 133, 97, 64, 3, 54, 4, 21, 4, 42, 180, 0, 24]
abbrev dktX1_checksum_8 : List UInt8 := dkwX1_checksum_8 ++ dktX1_checksum_9
def dkwX1_checksum_7 : List UInt8 := [180, 0, 48, 21, 4, 46, 133, 97, 64, 132, 4, 1, 167, 255, 229, 20, 1, 97, 20, 1, 97, 31, 105, 42]
abbrev dktX1_checksum_7 : List UInt8 := dkwX1_checksum_7 ++ dktX1_checksum_8
def dkwX1_checksum_6 : List UInt8 := [182, 1, 36, 133, 97, 64, 3, 54, 4, 21, 4, 42, 180, 0, 7, 162, 0, 24, 20, 1, 97, 31, 105, 42]
abbrev dktX1_checksum_6 : List UInt8 := dkwX1_checksum_6 ++ dktX1_checksum_7
def dkwX1_checksum_5 : List UInt8 := [182, 0, 204, 133, 97, 64, 132, 5, 1, 167, 255, 228, 132, 4, 1, 167, 255, 210, 20, 1, 97, 31, 105, 42]
abbrev dktX1_checksum_5 : List UInt8 := dkwX1_checksum_5 ++ dktX1_checksum_6
def dkwX1_checksum_4 : List UInt8 := [3, 54, 5, 21, 5, 42, 180, 0, 7, 162, 0, 25, 20, 1, 97, 31, 105, 42, 21, 4, 21, 5]
abbrev dktX1_checksum_4 : List UInt8 := dkwX1_checksum_4 ++ dktX1_checksum_5
def dkwX1_checksum_3 : List UInt8 := [105, 21, 7, 133, 97, 64, 132, 6, 1, 167, 255, 229, 3, 54, 4, 21, 4, 42, 180, 0, 7, 162, 0, 43]
abbrev dktX1_checksum_3 : List UInt8 := dkwX1_checksum_3 ++ dktX1_checksum_4
def dkwX1_checksum_2 : List UInt8 := [190, 54, 5, 3, 54, 6, 21, 6, 21, 5, 162, 0, 26, 25, 4, 21, 6, 46, 54, 7, 20, 1, 97, 31]
abbrev dktX1_checksum_2 : List UInt8 := dkwX1_checksum_2 ++ dktX1_checksum_3
def dkwX1_checksum_1 : List UInt8 := [182, 0, 201, 79, 89, 6, 42, 182, 0, 231, 79, 89, 7, 42, 182, 1, 94, 79, 78, 45, 58, 4, 25, 4]
abbrev dktX1_checksum_1 : List UInt8 := dkwX1_checksum_1 ++ dktX1_checksum_2
def dkwX1_checksum_0 : List UInt8 := [20, 1, 92, 64, 8, 188, 10, 89, 3, 42, 180, 0, 7, 79, 89, 4, 42, 180, 0, 13, 79, 89, 5, 42]
abbrev dktX1_checksum_0 : List UInt8 := dkwX1_checksum_0 ++ dktX1_checksum_1
theorem dksX1_checksum_0 : cX1_checksum.data.toList.drop 0 = dktX1_checksum_0 := by decide +kernel
theorem dksX1_checksum_1 : cX1_checksum.data.toList.drop 24 = dktX1_checksum_1 := dk_seg dksX1_checksum_0 24 rfl rfl
theorem dksX1_checksum_2 : cX1_checksum.data.toList.drop 48 = dktX1_checksum_2 := dk_seg dksX1_checksum_1 24 rfl rfl
theorem dksX1_checksum_3 : cX1_checksum.data.toList.drop 72 = dktX1_checksum_3 := dk_seg dksX1_checksum_2 24 rfl rfl
theorem dksX1_checksum_4 : cX1_checksum.data.toList.drop 96 = dktX1_checksum_4 := dk_seg dksX1_checksum_3 24 rfl rfl
theorem dksX1_checksum_5 : cX1_checksum.data.toList.drop 118 = dktX1_checksum_5 := dk_seg dksX1_checksum_4 22 rfl rfl
theorem dksX1_checksum_6 : cX1_checksum.data.toList.drop 142 = dktX1_checksum_6 := dk_seg dksX1_checksum_5 24 rfl rfl
theorem dksX1_checksum_7 : cX1_checksum.data.toList.drop 166 = dktX1_checksum_7 := dk_seg dksX1_checksum_6 24 rfl rfl
theorem dksX1_checksum_8 : cX1_checksum.data.toList.drop 190 = dktX1_checksum_8 := dk_seg dksX1_checksum_7 24 rfl rfl
theorem dksX1_checksum_9 : cX1_checksum.data.toList.drop 212 = dktX1_checksum_9 := dk_seg dksX1_checksum_8 22 rfl rfl
theorem dksX1_checksum_10 : cX1_checksum.data.toList.drop 234 = dktX1_checksum_10 := dk_seg dksX1_checksum_9 22 rfl rfl
theorem dksX1_checksum_11 : cX1_checksum.data.toList.drop 257 = dktX1_checksum_11 := dk_seg dksX1_checksum_10 23 rfl rfl
theorem dX1_checksum_0 : decode cX1_checksum 0 = .ok (.ldc2_w 348, 3) := dk_20 1 92 (dk_at dksX1_checksum_0 0 rfl rfl)
theorem dX1_checksum_3 : decode cX1_checksum 3 = .ok (.lstore_n 1, 1) := dk_64 (dk_at dksX1_checksum_0 3 rfl rfl)
theorem dX1_checksum_4 : decode cX1_checksum 4 = .ok (.iconst 5, 1) := dk_8 (dk_at dksX1_checksum_0 4 rfl rfl)
theorem dX1_checksum_5 : decode cX1_checksum 5 = .ok (.newarray .int, 2) := dk_188_10 (dk_at dksX1_checksum_0 5 rfl rfl)
theorem dX1_checksum_7 : decode cX1_checksum 7 = .ok (.dup, 1) := dk_89 (dk_at dksX1_checksum_0 7 rfl rfl)
theorem dX1_checksum_8 : decode cX1_checksum 8 = .ok (.iconst 0, 1) := dk_3 (dk_at dksX1_checksum_0 8 rfl rfl)
theorem dX1_checksum_9 : decode cX1_checksum 9 = .ok (.aload_n 0, 1) := dk_42 (dk_at dksX1_checksum_0 9 rfl rfl)
theorem dX1_checksum_10 : decode cX1_checksum 10 = .ok (.getfield 7, 3) := dk_180 0 7 (dk_at dksX1_checksum_0 10 rfl rfl)
theorem dX1_checksum_13 : decode cX1_checksum 13 = .ok (.iastore, 1) := dk_79 (dk_at dksX1_checksum_0 13 rfl rfl)
theorem dX1_checksum_14 : decode cX1_checksum 14 = .ok (.dup, 1) := dk_89 (dk_at dksX1_checksum_0 14 rfl rfl)
theorem dX1_checksum_15 : decode cX1_checksum 15 = .ok (.iconst 1, 1) := dk_4 (dk_at dksX1_checksum_0 15 rfl rfl)
theorem dX1_checksum_16 : decode cX1_checksum 16 = .ok (.aload_n 0, 1) := dk_42 (dk_at dksX1_checksum_0 16 rfl rfl)
theorem dX1_checksum_17 : decode cX1_checksum 17 = .ok (.getfield 13, 3) := dk_180 0 13 (dk_at dksX1_checksum_0 17 rfl rfl)
theorem dX1_checksum_20 : decode cX1_checksum 20 = .ok (.iastore, 1) := dk_79 (dk_at dksX1_checksum_0 20 rfl rfl)
theorem dX1_checksum_21 : decode cX1_checksum 21 = .ok (.dup, 1) := dk_89 (dk_at dksX1_checksum_0 21 rfl rfl)
theorem dX1_checksum_22 : decode cX1_checksum 22 = .ok (.iconst 2, 1) := dk_5 (dk_at dksX1_checksum_0 22 rfl rfl)
theorem dX1_checksum_23 : decode cX1_checksum 23 = .ok (.aload_n 0, 1) := dk_42 (dk_at dksX1_checksum_0 23 rfl rfl)
theorem dX1_checksum_24 : decode cX1_checksum 24 = .ok (.invokevirtual 201, 3) := dk_182 0 201 (dk_at dksX1_checksum_1 0 rfl rfl)
theorem dX1_checksum_27 : decode cX1_checksum 27 = .ok (.iastore, 1) := dk_79 (dk_at dksX1_checksum_1 3 rfl rfl)
theorem dX1_checksum_28 : decode cX1_checksum 28 = .ok (.dup, 1) := dk_89 (dk_at dksX1_checksum_1 4 rfl rfl)
theorem dX1_checksum_29 : decode cX1_checksum 29 = .ok (.iconst 3, 1) := dk_6 (dk_at dksX1_checksum_1 5 rfl rfl)
theorem dX1_checksum_30 : decode cX1_checksum 30 = .ok (.aload_n 0, 1) := dk_42 (dk_at dksX1_checksum_1 6 rfl rfl)
theorem dX1_checksum_31 : decode cX1_checksum 31 = .ok (.invokevirtual 231, 3) := dk_182 0 231 (dk_at dksX1_checksum_1 7 rfl rfl)
theorem dX1_checksum_34 : decode cX1_checksum 34 = .ok (.iastore, 1) := dk_79 (dk_at dksX1_checksum_1 10 rfl rfl)
theorem dX1_checksum_35 : decode cX1_checksum 35 = .ok (.dup, 1) := dk_89 (dk_at dksX1_checksum_1 11 rfl rfl)
theorem dX1_checksum_36 : decode cX1_checksum 36 = .ok (.iconst 4, 1) := dk_7 (dk_at dksX1_checksum_1 12 rfl rfl)
theorem dX1_checksum_37 : decode cX1_checksum 37 = .ok (.aload_n 0, 1) := dk_42 (dk_at dksX1_checksum_1 13 rfl rfl)
theorem dX1_checksum_38 : decode cX1_checksum 38 = .ok (.invokevirtual 350, 3) := dk_182 1 94 (dk_at dksX1_checksum_1 14 rfl rfl)
theorem dX1_checksum_41 : decode cX1_checksum 41 = .ok (.iastore, 1) := dk_79 (dk_at dksX1_checksum_1 17 rfl rfl)
theorem dX1_checksum_42 : decode cX1_checksum 42 = .ok (.astore_n 3, 1) := dk_78 (dk_at dksX1_checksum_1 18 rfl rfl)
theorem dX1_checksum_43 : decode cX1_checksum 43 = .ok (.aload_n 3, 1) := dk_45 (dk_at dksX1_checksum_1 19 rfl rfl)
theorem dX1_checksum_44 : decode cX1_checksum 44 = .ok (.astore 4, 2) := dk_58 4 (dk_at dksX1_checksum_1 20 rfl rfl)
theorem dX1_checksum_46 : decode cX1_checksum 46 = .ok (.aload 4, 2) := dk_25 4 (dk_at dksX1_checksum_1 22 rfl rfl)
theorem dX1_checksum_48 : decode cX1_checksum 48 = .ok (.arraylength, 1) := dk_190 (dk_at dksX1_checksum_2 0 rfl rfl)
theorem dX1_checksum_49 : decode cX1_checksum 49 = .ok (.istore 5, 2) := dk_54 5 (dk_at dksX1_checksum_2 1 rfl rfl)
theorem dX1_checksum_51 : decode cX1_checksum 51 = .ok (.iconst 0, 1) := dk_3 (dk_at dksX1_checksum_2 3 rfl rfl)
theorem dX1_checksum_52 : decode cX1_checksum 52 = .ok (.istore 6, 2) := dk_54 6 (dk_at dksX1_checksum_2 4 rfl rfl)
theorem dX1_checksum_54 : decode cX1_checksum 54 = .ok (.iload 6, 2) := dk_21 6 (dk_at dksX1_checksum_2 6 rfl rfl)
theorem dX1_checksum_56 : decode cX1_checksum 56 = .ok (.iload 5, 2) := dk_21 5 (dk_at dksX1_checksum_2 8 rfl rfl)
theorem dX1_checksum_58 : decode cX1_checksum 58 = .ok (.if_icmp .ge 26, 3) := dk_162 0 26 (dk_at dksX1_checksum_2 10 rfl rfl)
theorem dX1_checksum_61 : decode cX1_checksum 61 = .ok (.aload 4, 2) := dk_25 4 (dk_at dksX1_checksum_2 13 rfl rfl)
theorem dX1_checksum_63 : decode cX1_checksum 63 = .ok (.iload 6, 2) := dk_21 6 (dk_at dksX1_checksum_2 15 rfl rfl)
theorem dX1_checksum_65 : decode cX1_checksum 65 = .ok (.iaload, 1) := dk_46 (dk_at dksX1_checksum_2 17 rfl rfl)
theorem dX1_checksum_66 : decode cX1_checksum 66 = .ok (.istore 7, 2) := dk_54 7 (dk_at dksX1_checksum_2 18 rfl rfl)
theorem dX1_checksum_68 : decode cX1_checksum 68 = .ok (.ldc2_w 353, 3) := dk_20 1 97 (dk_at dksX1_checksum_2 20 rfl rfl)
theorem dX1_checksum_71 : decode cX1_checksum 71 = .ok (.lload_n 1, 1) := dk_31 (dk_at dksX1_checksum_2 23 rfl rfl)
theorem dX1_checksum_72 : decode cX1_checksum 72 = .ok (.lmul, 1) := dk_105 (dk_at dksX1_checksum_3 0 rfl rfl)
theorem dX1_checksum_73 : decode cX1_checksum 73 = .ok (.iload 7, 2) := dk_21 7 (dk_at dksX1_checksum_3 1 rfl rfl)
theorem dX1_checksum_75 : decode cX1_checksum 75 = .ok (.i2l, 1) := dk_133 (dk_at dksX1_checksum_3 3 rfl rfl)
theorem dX1_checksum_76 : decode cX1_checksum 76 = .ok (.ladd, 1) := dk_97 (dk_at dksX1_checksum_3 4 rfl rfl)
theorem dX1_checksum_77 : decode cX1_checksum 77 = .ok (.lstore_n 1, 1) := dk_64 (dk_at dksX1_checksum_3 5 rfl rfl)
theorem dX1_checksum_78 : decode cX1_checksum 78 = .ok (.iinc 6 1, 3) := dk_132 6 1 (dk_at dksX1_checksum_3 6 rfl rfl)
theorem dX1_checksum_81 : decode cX1_checksum 81 = .ok (.goto (-27), 3) := dk_167 255 229 (dk_at dksX1_checksum_3 9 rfl rfl)
theorem dX1_checksum_84 : decode cX1_checksum 84 = .ok (.iconst 0, 1) := dk_3 (dk_at dksX1_checksum_3 12 rfl rfl)
theorem dX1_checksum_85 : decode cX1_checksum 85 = .ok (.istore 4, 2) := dk_54 4 (dk_at dksX1_checksum_3 13 rfl rfl)
theorem dX1_checksum_87 : decode cX1_checksum 87 = .ok (.iload 4, 2) := dk_21 4 (dk_at dksX1_checksum_3 15 rfl rfl)
theorem dX1_checksum_89 : decode cX1_checksum 89 = .ok (.aload_n 0, 1) := dk_42 (dk_at dksX1_checksum_3 17 rfl rfl)
theorem dX1_checksum_90 : decode cX1_checksum 90 = .ok (.getfield 7, 3) := dk_180 0 7 (dk_at dksX1_checksum_3 18 rfl rfl)
theorem dX1_checksum_93 : decode cX1_checksum 93 = .ok (.if_icmp .ge 43, 3) := dk_162 0 43 (dk_at dksX1_checksum_3 21 rfl rfl)
theorem dX1_checksum_96 : decode cX1_checksum 96 = .ok (.iconst 0, 1) := dk_3 (dk_at dksX1_checksum_4 0 rfl rfl)
theorem dX1_checksum_97 : decode cX1_checksum 97 = .ok (.istore 5, 2) := dk_54 5 (dk_at dksX1_checksum_4 1 rfl rfl)
theorem dX1_checksum_99 : decode cX1_checksum 99 = .ok (.iload 5, 2) := dk_21 5 (dk_at dksX1_checksum_4 3 rfl rfl)
theorem dX1_checksum_101 : decode cX1_checksum 101 = .ok (.aload_n 0, 1) := dk_42 (dk_at dksX1_checksum_4 5 rfl rfl)
theorem dX1_checksum_102 : decode cX1_checksum 102 = .ok (.getfield 7, 3) := dk_180 0 7 (dk_at dksX1_checksum_4 6 rfl rfl)
theorem dX1_checksum_105 : decode cX1_checksum 105 = .ok (.if_icmp .ge 25, 3) := dk_162 0 25 (dk_at dksX1_checksum_4 9 rfl rfl)
theorem dX1_checksum_108 : decode cX1_checksum 108 = .ok (.ldc2_w 353, 3) := dk_20 1 97 (dk_at dksX1_checksum_4 12 rfl rfl)
theorem dX1_checksum_111 : decode cX1_checksum 111 = .ok (.lload_n 1, 1) := dk_31 (dk_at dksX1_checksum_4 15 rfl rfl)
theorem dX1_checksum_112 : decode cX1_checksum 112 = .ok (.lmul, 1) := dk_105 (dk_at dksX1_checksum_4 16 rfl rfl)
theorem dX1_checksum_113 : decode cX1_checksum 113 = .ok (.aload_n 0, 1) := dk_42 (dk_at dksX1_checksum_4 17 rfl rfl)
theorem dX1_checksum_114 : decode cX1_checksum 114 = .ok (.iload 4, 2) := dk_21 4 (dk_at dksX1_checksum_4 18 rfl rfl)
theorem dX1_checksum_116 : decode cX1_checksum 116 = .ok (.iload 5, 2) := dk_21 5 (dk_at dksX1_checksum_4 20 rfl rfl)
theorem dX1_checksum_118 : decode cX1_checksum 118 = .ok (.invokevirtual 204, 3) := dk_182 0 204 (dk_at dksX1_checksum_5 0 rfl rfl)
theorem dX1_checksum_121 : decode cX1_checksum 121 = .ok (.i2l, 1) := dk_133 (dk_at dksX1_checksum_5 3 rfl rfl)
theorem dX1_checksum_122 : decode cX1_checksum 122 = .ok (.ladd, 1) := dk_97 (dk_at dksX1_checksum_5 4 rfl rfl)
theorem dX1_checksum_123 : decode cX1_checksum 123 = .ok (.lstore_n 1, 1) := dk_64 (dk_at dksX1_checksum_5 5 rfl rfl)
theorem dX1_checksum_124 : decode cX1_checksum 124 = .ok (.iinc 5 1, 3) := dk_132 5 1 (dk_at dksX1_checksum_5 6 rfl rfl)
theorem dX1_checksum_127 : decode cX1_checksum 127 = .ok (.goto (-28), 3) := dk_167 255 228 (dk_at dksX1_checksum_5 9 rfl rfl)
theorem dX1_checksum_130 : decode cX1_checksum 130 = .ok (.iinc 4 1, 3) := dk_132 4 1 (dk_at dksX1_checksum_5 12 rfl rfl)
theorem dX1_checksum_133 : decode cX1_checksum 133 = .ok (.goto (-46), 3) := dk_167 255 210 (dk_at dksX1_checksum_5 15 rfl rfl)
theorem dX1_checksum_136 : decode cX1_checksum 136 = .ok (.ldc2_w 353, 3) := dk_20 1 97 (dk_at dksX1_checksum_5 18 rfl rfl)
theorem dX1_checksum_139 : decode cX1_checksum 139 = .ok (.lload_n 1, 1) := dk_31 (dk_at dksX1_checksum_5 21 rfl rfl)
theorem dX1_checksum_140 : decode cX1_checksum 140 = .ok (.lmul, 1) := dk_105 (dk_at dksX1_checksum_5 22 rfl rfl)
theorem dX1_checksum_141 : decode cX1_checksum 141 = .ok (.aload_n 0, 1) := dk_42 (dk_at dksX1_checksum_5 23 rfl rfl)
theorem dX1_checksum_142 : decode cX1_checksum 142 = .ok (.invokevirtual 292, 3) := dk_182 1 36 (dk_at dksX1_checksum_6 0 rfl rfl)
theorem dX1_checksum_145 : decode cX1_checksum 145 = .ok (.i2l, 1) := dk_133 (dk_at dksX1_checksum_6 3 rfl rfl)
theorem dX1_checksum_146 : decode cX1_checksum 146 = .ok (.ladd, 1) := dk_97 (dk_at dksX1_checksum_6 4 rfl rfl)
theorem dX1_checksum_147 : decode cX1_checksum 147 = .ok (.lstore_n 1, 1) := dk_64 (dk_at dksX1_checksum_6 5 rfl rfl)
theorem dX1_checksum_148 : decode cX1_checksum 148 = .ok (.iconst 0, 1) := dk_3 (dk_at dksX1_checksum_6 6 rfl rfl)
theorem dX1_checksum_149 : decode cX1_checksum 149 = .ok (.istore 4, 2) := dk_54 4 (dk_at dksX1_checksum_6 7 rfl rfl)
theorem dX1_checksum_151 : decode cX1_checksum 151 = .ok (.iload 4, 2) := dk_21 4 (dk_at dksX1_checksum_6 9 rfl rfl)
theorem dX1_checksum_153 : decode cX1_checksum 153 = .ok (.aload_n 0, 1) := dk_42 (dk_at dksX1_checksum_6 11 rfl rfl)
theorem dX1_checksum_154 : decode cX1_checksum 154 = .ok (.getfield 7, 3) := dk_180 0 7 (dk_at dksX1_checksum_6 12 rfl rfl)
theorem dX1_checksum_157 : decode cX1_checksum 157 = .ok (.if_icmp .ge 24, 3) := dk_162 0 24 (dk_at dksX1_checksum_6 15 rfl rfl)
theorem dX1_checksum_160 : decode cX1_checksum 160 = .ok (.ldc2_w 353, 3) := dk_20 1 97 (dk_at dksX1_checksum_6 18 rfl rfl)
theorem dX1_checksum_163 : decode cX1_checksum 163 = .ok (.lload_n 1, 1) := dk_31 (dk_at dksX1_checksum_6 21 rfl rfl)
theorem dX1_checksum_164 : decode cX1_checksum 164 = .ok (.lmul, 1) := dk_105 (dk_at dksX1_checksum_6 22 rfl rfl)
theorem dX1_checksum_165 : decode cX1_checksum 165 = .ok (.aload_n 0, 1) := dk_42 (dk_at dksX1_checksum_6 23 rfl rfl)
theorem dX1_checksum_166 : decode cX1_checksum 166 = .ok (.getfield 48, 3) := dk_180 0 48 (dk_at dksX1_checksum_7 0 rfl rfl)
theorem dX1_checksum_169 : decode cX1_checksum 169 = .ok (.iload 4, 2) := dk_21 4 (dk_at dksX1_checksum_7 3 rfl rfl)
theorem dX1_checksum_171 : decode cX1_checksum 171 = .ok (.iaload, 1) := dk_46 (dk_at dksX1_checksum_7 5 rfl rfl)
theorem dX1_checksum_172 : decode cX1_checksum 172 = .ok (.i2l, 1) := dk_133 (dk_at dksX1_checksum_7 6 rfl rfl)
theorem dX1_checksum_173 : decode cX1_checksum 173 = .ok (.ladd, 1) := dk_97 (dk_at dksX1_checksum_7 7 rfl rfl)
theorem dX1_checksum_174 : decode cX1_checksum 174 = .ok (.lstore_n 1, 1) := dk_64 (dk_at dksX1_checksum_7 8 rfl rfl)
theorem dX1_checksum_175 : decode cX1_checksum 175 = .ok (.iinc 4 1, 3) := dk_132 4 1 (dk_at dksX1_checksum_7 9 rfl rfl)
theorem dX1_checksum_178 : decode cX1_checksum 178 = .ok (.goto (-27), 3) := dk_167 255 229 (dk_at dksX1_checksum_7 12 rfl rfl)
theorem dX1_checksum_181 : decode cX1_checksum 181 = .ok (.ldc2_w 353, 3) := dk_20 1 97 (dk_at dksX1_checksum_7 15 rfl rfl)
theorem dX1_checksum_184 : decode cX1_checksum 184 = .ok (.ldc2_w 353, 3) := dk_20 1 97 (dk_at dksX1_checksum_7 18 rfl rfl)
theorem dX1_checksum_187 : decode cX1_checksum 187 = .ok (.lload_n 1, 1) := dk_31 (dk_at dksX1_checksum_7 21 rfl rfl)
theorem dX1_checksum_188 : decode cX1_checksum 188 = .ok (.lmul, 1) := dk_105 (dk_at dksX1_checksum_7 22 rfl rfl)
theorem dX1_checksum_189 : decode cX1_checksum 189 = .ok (.aload_n 0, 1) := dk_42 (dk_at dksX1_checksum_7 23 rfl rfl)
theorem dX1_checksum_190 : decode cX1_checksum 190 = .ok (.getfield 24, 3) := dk_180 0 24 (dk_at dksX1_checksum_8 0 rfl rfl)
theorem dX1_checksum_193 : decode cX1_checksum 193 = .ok (.i2l, 1) := dk_133 (dk_at dksX1_checksum_8 3 rfl rfl)
theorem dX1_checksum_194 : decode cX1_checksum 194 = .ok (.ladd, 1) := dk_97 (dk_at dksX1_checksum_8 4 rfl rfl)
theorem dX1_checksum_195 : decode cX1_checksum 195 = .ok (.lmul, 1) := dk_105 (dk_at dksX1_checksum_8 5 rfl rfl)
theorem dX1_checksum_196 : decode cX1_checksum 196 = .ok (.aload_n 0, 1) := dk_42 (dk_at dksX1_checksum_8 6 rfl rfl)
theorem dX1_checksum_197 : decode cX1_checksum 197 = .ok (.getfield 27, 3) := dk_180 0 27 (dk_at dksX1_checksum_8 7 rfl rfl)
theorem dX1_checksum_200 : decode cX1_checksum 200 = .ok (.i2l, 1) := dk_133 (dk_at dksX1_checksum_8 10 rfl rfl)
theorem dX1_checksum_201 : decode cX1_checksum 201 = .ok (.ladd, 1) := dk_97 (dk_at dksX1_checksum_8 11 rfl rfl)
theorem dX1_checksum_202 : decode cX1_checksum 202 = .ok (.lstore_n 1, 1) := dk_64 (dk_at dksX1_checksum_8 12 rfl rfl)
theorem dX1_checksum_203 : decode cX1_checksum 203 = .ok (.iconst 0, 1) := dk_3 (dk_at dksX1_checksum_8 13 rfl rfl)
theorem dX1_checksum_204 : decode cX1_checksum 204 = .ok (.istore 4, 2) := dk_54 4 (dk_at dksX1_checksum_8 14 rfl rfl)
theorem dX1_checksum_206 : decode cX1_checksum 206 = .ok (.iload 4, 2) := dk_21 4 (dk_at dksX1_checksum_8 16 rfl rfl)
theorem dX1_checksum_208 : decode cX1_checksum 208 = .ok (.aload_n 0, 1) := dk_42 (dk_at dksX1_checksum_8 18 rfl rfl)
theorem dX1_checksum_209 : decode cX1_checksum 209 = .ok (.getfield 24, 3) := dk_180 0 24 (dk_at dksX1_checksum_8 19 rfl rfl)
theorem dX1_checksum_212 : decode cX1_checksum 212 = .ok (.if_icmp .ge 51, 3) := dk_162 0 51 (dk_at dksX1_checksum_9 0 rfl rfl)
theorem dX1_checksum_215 : decode cX1_checksum 215 = .ok (.iconst 0, 1) := dk_3 (dk_at dksX1_checksum_9 3 rfl rfl)
theorem dX1_checksum_216 : decode cX1_checksum 216 = .ok (.istore 5, 2) := dk_54 5 (dk_at dksX1_checksum_9 4 rfl rfl)
theorem dX1_checksum_218 : decode cX1_checksum 218 = .ok (.iload 5, 2) := dk_21 5 (dk_at dksX1_checksum_9 6 rfl rfl)
theorem dX1_checksum_220 : decode cX1_checksum 220 = .ok (.aload_n 0, 1) := dk_42 (dk_at dksX1_checksum_9 8 rfl rfl)
theorem dX1_checksum_221 : decode cX1_checksum 221 = .ok (.getfield 24, 3) := dk_180 0 24 (dk_at dksX1_checksum_9 9 rfl rfl)
theorem dX1_checksum_224 : decode cX1_checksum 224 = .ok (.if_icmp .ge 33, 3) := dk_162 0 33 (dk_at dksX1_checksum_9 12 rfl rfl)
theorem dX1_checksum_227 : decode cX1_checksum 227 = .ok (.ldc2_w 353, 3) := dk_20 1 97 (dk_at dksX1_checksum_9 15 rfl rfl)
theorem dX1_checksum_230 : decode cX1_checksum 230 = .ok (.lload_n 1, 1) := dk_31 (dk_at dksX1_checksum_9 18 rfl rfl)
theorem dX1_checksum_231 : decode cX1_checksum 231 = .ok (.lmul, 1) := dk_105 (dk_at dksX1_checksum_9 19 rfl rfl)
theorem dX1_checksum_232 : decode cX1_checksum 232 = .ok (.aload_n 0, 1) := dk_42 (dk_at dksX1_checksum_9 20 rfl rfl)
theorem dX1_checksum_233 : decode cX1_checksum 233 = .ok (.aload_n 0, 1) := dk_42 (dk_at dksX1_checksum_9 21 rfl rfl)
theorem dX1_checksum_234 : decode cX1_checksum 234 = .ok (.getfield 30, 3) := dk_180 0 30 (dk_at dksX1_checksum_10 0 rfl rfl)
theorem dX1_checksum_237 : decode cX1_checksum 237 = .ok (.aload_n 0, 1) := dk_42 (dk_at dksX1_checksum_10 3 rfl rfl)
theorem dX1_checksum_238 : decode cX1_checksum 238 = .ok (.getfield 27, 3) := dk_180 0 27 (dk_at dksX1_checksum_10 4 rfl rfl)
theorem dX1_checksum_241 : decode cX1_checksum 241 = .ok (.iload 4, 2) := dk_21 4 (dk_at dksX1_checksum_10 7 rfl rfl)
theorem dX1_checksum_243 : decode cX1_checksum 243 = .ok (.iload 5, 2) := dk_21 5 (dk_at dksX1_checksum_10 9 rfl rfl)
theorem dX1_checksum_245 : decode cX1_checksum 245 = .ok (.invokevirtual 143, 3) := dk_182 0 143 (dk_at dksX1_checksum_10 11 rfl rfl)
theorem dX1_checksum_248 : decode cX1_checksum 248 = .ok (.i2l, 1) := dk_133 (dk_at dksX1_checksum_10 14 rfl rfl)
theorem dX1_checksum_249 : decode cX1_checksum 249 = .ok (.ladd, 1) := dk_97 (dk_at dksX1_checksum_10 15 rfl rfl)
theorem dX1_checksum_250 : decode cX1_checksum 250 = .ok (.lstore_n 1, 1) := dk_64 (dk_at dksX1_checksum_10 16 rfl rfl)
theorem dX1_checksum_251 : decode cX1_checksum 251 = .ok (.iinc 5 1, 3) := dk_132 5 1 (dk_at dksX1_checksum_10 17 rfl rfl)
theorem dX1_checksum_254 : decode cX1_checksum 254 = .ok (.goto (-36), 3) := dk_167 255 220 (dk_at dksX1_checksum_10 20 rfl rfl)
theorem dX1_checksum_257 : decode cX1_checksum 257 = .ok (.iinc 4 1, 3) := dk_132 4 1 (dk_at dksX1_checksum_11 0 rfl rfl)
theorem dX1_checksum_260 : decode cX1_checksum 260 = .ok (.goto (-54), 3) := dk_167 255 202 (dk_at dksX1_checksum_11 3 rfl rfl)
theorem dX1_checksum_263 : decode cX1_checksum 263 = .ok (.lload_n 1, 1) := dk_31 (dk_at dksX1_checksum_11 6 rfl rfl)
theorem dX1_checksum_264 : decode cX1_checksum 264 = .ok (.lreturn, 1) := dk_173 (dk_at dksX1_checksum_11 7 rfl rfl)
abbrev cX1_isSound : ByteArray := prog_1_method_75_code
def yX1_isSound : MethodName := ⟨RX1, "isSound", "()Z"⟩
def dkwX1_isSound_11 : List UInt8 := [167, 0, 4, 3, 172]
abbrev dktX1_isSound_11 : List UInt8 := dkwX1_isSound_11 ++ []
def dkwX1_isSound_10 : List UInt8 := [182, 1, 49, 153, 0, 23, 21, 7, 153, 0, 14, 42, 21, 7, 4, 100, 182, 1, 49, 154, 0, 7, 4]
abbrev dktX1_isSound_10 : List UInt8 := dkwX1_isSound_10 ++ dktX1_isSound_11
def dkwX1_isSound_9 : List UInt8 := [21, 6, 184, 0, 190, 160, 0, 7, 4, 167, 0, 4, 3, 54, 4, 21, 4, 153, 0, 32, 42, 21, 7]
abbrev dktX1_isSound_9 : List UInt8 := dkwX1_isSound_9 ++ dktX1_isSound_10
def dkwX1_isSound_8 : List UInt8 := [153, 0, 36, 29, 27, 160, 0, 31, 27, 42, 180, 0, 7, 4, 160, 0, 8, 21, 5, 167, 0, 10, 21, 5]
abbrev dktX1_isSound_8 : List UInt8 := dkwX1_isSound_8 ++ dktX1_isSound_9
def dkwX1_isSound_7 : List UInt8 := [3, 3, 182, 1, 99, 54, 5, 42, 3, 3, 182, 1, 42, 54, 6, 42, 182, 1, 102, 54, 7, 21, 4]
abbrev dktX1_isSound_7 : List UInt8 := dkwX1_isSound_7 ++ dktX1_isSound_8
def dkwX1_isSound_6 : List UInt8 := [167, 0, 4, 3, 54, 4, 132, 6, 1, 167, 255, 185, 28, 16, 10, 108, 61, 132, 5, 1, 167, 255, 144, 42]
abbrev dktX1_isSound_6 : List UInt8 := dkwX1_isSound_6 ++ dktX1_isSound_7
def dkwX1_isSound_5 : List UInt8 := [153, 0, 26, 21, 7, 155, 0, 21, 21, 6, 28, 16, 10, 112, 160, 0, 8, 21, 7, 154, 0, 7, 4]
abbrev dktX1_isSound_5 : List UInt8 := dkwX1_isSound_5 ++ dktX1_isSound_6
def dkwX1_isSound_4 : List UInt8 := [50, 21, 6, 46, 42, 180, 0, 76, 21, 5, 46, 100, 42, 180, 0, 79, 21, 6, 46, 100, 54, 7, 21, 4]
abbrev dktX1_isSound_4 : List UInt8 := dkwX1_isSound_4 ++ dktX1_isSound_5
def dkwX1_isSound_3 : List UInt8 := [21, 5, 46, 96, 96, 62, 3, 54, 6, 21, 6, 42, 180, 0, 7, 162, 0, 68, 42, 180, 0, 35, 21, 5]
abbrev dktX1_isSound_3 : List UInt8 := dkwX1_isSound_3 ++ dktX1_isSound_4
def dkwX1_isSound_2 : List UInt8 := [54, 5, 21, 5, 42, 180, 0, 7, 162, 0, 109, 29, 42, 180, 0, 76, 21, 5, 46, 42, 180, 0, 79]
abbrev dktX1_isSound_2 : List UInt8 := dkwX1_isSound_2 ++ dktX1_isSound_3
def dkwX1_isSound_1 : List UInt8 := [180, 0, 48, 29, 46, 96, 61, 132, 3, 255, 167, 255, 237, 42, 182, 1, 39, 87, 3, 62, 4, 54, 4, 3]
abbrev dktX1_isSound_1 : List UInt8 := dkwX1_isSound_1 ++ dktX1_isSound_2
def dkwX1_isSound_0 : List UInt8 := [42, 182, 1, 36, 60, 3, 61, 42, 180, 0, 7, 4, 100, 62, 29, 155, 0, 21, 16, 10, 28, 104, 42]
abbrev dktX1_isSound_0 : List UInt8 := dkwX1_isSound_0 ++ dktX1_isSound_1
theorem dksX1_isSound_0 : cX1_isSound.data.toList.drop 0 = dktX1_isSound_0 := by decide +kernel
theorem dksX1_isSound_1 : cX1_isSound.data.toList.drop 23 = dktX1_isSound_1 := dk_seg dksX1_isSound_0 23 rfl rfl
theorem dksX1_isSound_2 : cX1_isSound.data.toList.drop 47 = dktX1_isSound_2 := dk_seg dksX1_isSound_1 24 rfl rfl
theorem dksX1_isSound_3 : cX1_isSound.data.toList.drop 70 = dktX1_isSound_3 := dk_seg dksX1_isSound_2 23 rfl rfl
theorem dksX1_isSound_4 : cX1_isSound.data.toList.drop 94 = dktX1_isSound_4 := dk_seg dksX1_isSound_3 24 rfl rfl
theorem dksX1_isSound_5 : cX1_isSound.data.toList.drop 118 = dktX1_isSound_5 := dk_seg dksX1_isSound_4 24 rfl rfl
theorem dksX1_isSound_6 : cX1_isSound.data.toList.drop 141 = dktX1_isSound_6 := dk_seg dksX1_isSound_5 23 rfl rfl
theorem dksX1_isSound_7 : cX1_isSound.data.toList.drop 165 = dktX1_isSound_7 := dk_seg dksX1_isSound_6 24 rfl rfl
theorem dksX1_isSound_8 : cX1_isSound.data.toList.drop 188 = dktX1_isSound_8 := dk_seg dksX1_isSound_7 23 rfl rfl
theorem dksX1_isSound_9 : cX1_isSound.data.toList.drop 212 = dktX1_isSound_9 := dk_seg dksX1_isSound_8 24 rfl rfl
theorem dksX1_isSound_10 : cX1_isSound.data.toList.drop 235 = dktX1_isSound_10 := dk_seg dksX1_isSound_9 23 rfl rfl
theorem dksX1_isSound_11 : cX1_isSound.data.toList.drop 258 = dktX1_isSound_11 := dk_seg dksX1_isSound_10 23 rfl rfl
theorem dX1_isSound_0 : decode cX1_isSound 0 = .ok (.aload_n 0, 1) := dk_42 (dk_at dksX1_isSound_0 0 rfl rfl)
theorem dX1_isSound_1 : decode cX1_isSound 1 = .ok (.invokevirtual 292, 3) := dk_182 1 36 (dk_at dksX1_isSound_0 1 rfl rfl)
theorem dX1_isSound_4 : decode cX1_isSound 4 = .ok (.istore_n 1, 1) := dk_60 (dk_at dksX1_isSound_0 4 rfl rfl)
theorem dX1_isSound_5 : decode cX1_isSound 5 = .ok (.iconst 0, 1) := dk_3 (dk_at dksX1_isSound_0 5 rfl rfl)
theorem dX1_isSound_6 : decode cX1_isSound 6 = .ok (.istore_n 2, 1) := dk_61 (dk_at dksX1_isSound_0 6 rfl rfl)
theorem dX1_isSound_7 : decode cX1_isSound 7 = .ok (.aload_n 0, 1) := dk_42 (dk_at dksX1_isSound_0 7 rfl rfl)
theorem dX1_isSound_8 : decode cX1_isSound 8 = .ok (.getfield 7, 3) := dk_180 0 7 (dk_at dksX1_isSound_0 8 rfl rfl)
theorem dX1_isSound_11 : decode cX1_isSound 11 = .ok (.iconst 1, 1) := dk_4 (dk_at dksX1_isSound_0 11 rfl rfl)
theorem dX1_isSound_12 : decode cX1_isSound 12 = .ok (.isub, 1) := dk_100 (dk_at dksX1_isSound_0 12 rfl rfl)
theorem dX1_isSound_13 : decode cX1_isSound 13 = .ok (.istore_n 3, 1) := dk_62 (dk_at dksX1_isSound_0 13 rfl rfl)
theorem dX1_isSound_14 : decode cX1_isSound 14 = .ok (.iload_n 3, 1) := dk_29 (dk_at dksX1_isSound_0 14 rfl rfl)
theorem dX1_isSound_15 : decode cX1_isSound 15 = .ok (.ifCond .lt 21, 3) := dk_155 0 21 (dk_at dksX1_isSound_0 15 rfl rfl)
theorem dX1_isSound_18 : decode cX1_isSound 18 = .ok (.bipush 10, 2) := dk_16 10 (dk_at dksX1_isSound_0 18 rfl rfl)
theorem dX1_isSound_20 : decode cX1_isSound 20 = .ok (.iload_n 2, 1) := dk_28 (dk_at dksX1_isSound_0 20 rfl rfl)
theorem dX1_isSound_21 : decode cX1_isSound 21 = .ok (.imul, 1) := dk_104 (dk_at dksX1_isSound_0 21 rfl rfl)
theorem dX1_isSound_22 : decode cX1_isSound 22 = .ok (.aload_n 0, 1) := dk_42 (dk_at dksX1_isSound_0 22 rfl rfl)
theorem dX1_isSound_23 : decode cX1_isSound 23 = .ok (.getfield 48, 3) := dk_180 0 48 (dk_at dksX1_isSound_1 0 rfl rfl)
theorem dX1_isSound_26 : decode cX1_isSound 26 = .ok (.iload_n 3, 1) := dk_29 (dk_at dksX1_isSound_1 3 rfl rfl)
theorem dX1_isSound_27 : decode cX1_isSound 27 = .ok (.iaload, 1) := dk_46 (dk_at dksX1_isSound_1 4 rfl rfl)
theorem dX1_isSound_28 : decode cX1_isSound 28 = .ok (.iadd, 1) := dk_96 (dk_at dksX1_isSound_1 5 rfl rfl)
theorem dX1_isSound_29 : decode cX1_isSound 29 = .ok (.istore_n 2, 1) := dk_61 (dk_at dksX1_isSound_1 6 rfl rfl)
theorem dX1_isSound_30 : decode cX1_isSound 30 = .ok (.iinc 3 (-1), 3) := dk_132 3 255 (dk_at dksX1_isSound_1 7 rfl rfl)
theorem dX1_isSound_33 : decode cX1_isSound 33 = .ok (.goto (-19), 3) := dk_167 255 237 (dk_at dksX1_isSound_1 10 rfl rfl)
theorem dX1_isSound_36 : decode cX1_isSound 36 = .ok (.aload_n 0, 1) := dk_42 (dk_at dksX1_isSound_1 13 rfl rfl)
theorem dX1_isSound_37 : decode cX1_isSound 37 = .ok (.invokevirtual 295, 3) := dk_182 1 39 (dk_at dksX1_isSound_1 14 rfl rfl)
theorem dX1_isSound_40 : decode cX1_isSound 40 = .ok (.pop, 1) := dk_87 (dk_at dksX1_isSound_1 17 rfl rfl)
theorem dX1_isSound_41 : decode cX1_isSound 41 = .ok (.iconst 0, 1) := dk_3 (dk_at dksX1_isSound_1 18 rfl rfl)
theorem dX1_isSound_42 : decode cX1_isSound 42 = .ok (.istore_n 3, 1) := dk_62 (dk_at dksX1_isSound_1 19 rfl rfl)
theorem dX1_isSound_43 : decode cX1_isSound 43 = .ok (.iconst 1, 1) := dk_4 (dk_at dksX1_isSound_1 20 rfl rfl)
theorem dX1_isSound_44 : decode cX1_isSound 44 = .ok (.istore 4, 2) := dk_54 4 (dk_at dksX1_isSound_1 21 rfl rfl)
theorem dX1_isSound_46 : decode cX1_isSound 46 = .ok (.iconst 0, 1) := dk_3 (dk_at dksX1_isSound_1 23 rfl rfl)
theorem dX1_isSound_47 : decode cX1_isSound 47 = .ok (.istore 5, 2) := dk_54 5 (dk_at dksX1_isSound_2 0 rfl rfl)
theorem dX1_isSound_49 : decode cX1_isSound 49 = .ok (.iload 5, 2) := dk_21 5 (dk_at dksX1_isSound_2 2 rfl rfl)
theorem dX1_isSound_51 : decode cX1_isSound 51 = .ok (.aload_n 0, 1) := dk_42 (dk_at dksX1_isSound_2 4 rfl rfl)
theorem dX1_isSound_52 : decode cX1_isSound 52 = .ok (.getfield 7, 3) := dk_180 0 7 (dk_at dksX1_isSound_2 5 rfl rfl)
theorem dX1_isSound_55 : decode cX1_isSound 55 = .ok (.if_icmp .ge 109, 3) := dk_162 0 109 (dk_at dksX1_isSound_2 8 rfl rfl)
theorem dX1_isSound_58 : decode cX1_isSound 58 = .ok (.iload_n 3, 1) := dk_29 (dk_at dksX1_isSound_2 11 rfl rfl)
theorem dX1_isSound_59 : decode cX1_isSound 59 = .ok (.aload_n 0, 1) := dk_42 (dk_at dksX1_isSound_2 12 rfl rfl)
theorem dX1_isSound_60 : decode cX1_isSound 60 = .ok (.getfield 76, 3) := dk_180 0 76 (dk_at dksX1_isSound_2 13 rfl rfl)
theorem dX1_isSound_63 : decode cX1_isSound 63 = .ok (.iload 5, 2) := dk_21 5 (dk_at dksX1_isSound_2 16 rfl rfl)
theorem dX1_isSound_65 : decode cX1_isSound 65 = .ok (.iaload, 1) := dk_46 (dk_at dksX1_isSound_2 18 rfl rfl)
theorem dX1_isSound_66 : decode cX1_isSound 66 = .ok (.aload_n 0, 1) := dk_42 (dk_at dksX1_isSound_2 19 rfl rfl)
theorem dX1_isSound_67 : decode cX1_isSound 67 = .ok (.getfield 79, 3) := dk_180 0 79 (dk_at dksX1_isSound_2 20 rfl rfl)
theorem dX1_isSound_70 : decode cX1_isSound 70 = .ok (.iload 5, 2) := dk_21 5 (dk_at dksX1_isSound_3 0 rfl rfl)
theorem dX1_isSound_72 : decode cX1_isSound 72 = .ok (.iaload, 1) := dk_46 (dk_at dksX1_isSound_3 2 rfl rfl)
theorem dX1_isSound_73 : decode cX1_isSound 73 = .ok (.iadd, 1) := dk_96 (dk_at dksX1_isSound_3 3 rfl rfl)
theorem dX1_isSound_74 : decode cX1_isSound 74 = .ok (.iadd, 1) := dk_96 (dk_at dksX1_isSound_3 4 rfl rfl)
theorem dX1_isSound_75 : decode cX1_isSound 75 = .ok (.istore_n 3, 1) := dk_62 (dk_at dksX1_isSound_3 5 rfl rfl)
theorem dX1_isSound_76 : decode cX1_isSound 76 = .ok (.iconst 0, 1) := dk_3 (dk_at dksX1_isSound_3 6 rfl rfl)
theorem dX1_isSound_77 : decode cX1_isSound 77 = .ok (.istore 6, 2) := dk_54 6 (dk_at dksX1_isSound_3 7 rfl rfl)
theorem dX1_isSound_79 : decode cX1_isSound 79 = .ok (.iload 6, 2) := dk_21 6 (dk_at dksX1_isSound_3 9 rfl rfl)
theorem dX1_isSound_81 : decode cX1_isSound 81 = .ok (.aload_n 0, 1) := dk_42 (dk_at dksX1_isSound_3 11 rfl rfl)
theorem dX1_isSound_82 : decode cX1_isSound 82 = .ok (.getfield 7, 3) := dk_180 0 7 (dk_at dksX1_isSound_3 12 rfl rfl)
theorem dX1_isSound_85 : decode cX1_isSound 85 = .ok (.if_icmp .ge 68, 3) := dk_162 0 68 (dk_at dksX1_isSound_3 15 rfl rfl)
theorem dX1_isSound_88 : decode cX1_isSound 88 = .ok (.aload_n 0, 1) := dk_42 (dk_at dksX1_isSound_3 18 rfl rfl)
theorem dX1_isSound_89 : decode cX1_isSound 89 = .ok (.getfield 35, 3) := dk_180 0 35 (dk_at dksX1_isSound_3 19 rfl rfl)
theorem dX1_isSound_92 : decode cX1_isSound 92 = .ok (.iload 5, 2) := dk_21 5 (dk_at dksX1_isSound_3 22 rfl rfl)
theorem dX1_isSound_94 : decode cX1_isSound 94 = .ok (.aaload, 1) := dk_50 (dk_at dksX1_isSound_4 0 rfl rfl)
theorem dX1_isSound_95 : decode cX1_isSound 95 = .ok (.iload 6, 2) := dk_21 6 (dk_at dksX1_isSound_4 1 rfl rfl)
theorem dX1_isSound_97 : decode cX1_isSound 97 = .ok (.iaload, 1) := dk_46 (dk_at dksX1_isSound_4 3 rfl rfl)
theorem dX1_isSound_98 : decode cX1_isSound 98 = .ok (.aload_n 0, 1) := dk_42 (dk_at dksX1_isSound_4 4 rfl rfl)
theorem dX1_isSound_99 : decode cX1_isSound 99 = .ok (.getfield 76, 3) := dk_180 0 76 (dk_at dksX1_isSound_4 5 rfl rfl)
theorem dX1_isSound_102 : decode cX1_isSound 102 = .ok (.iload 5, 2) := dk_21 5 (dk_at dksX1_isSound_4 8 rfl rfl)
theorem dX1_isSound_104 : decode cX1_isSound 104 = .ok (.iaload, 1) := dk_46 (dk_at dksX1_isSound_4 10 rfl rfl)
theorem dX1_isSound_105 : decode cX1_isSound 105 = .ok (.isub, 1) := dk_100 (dk_at dksX1_isSound_4 11 rfl rfl)
theorem dX1_isSound_106 : decode cX1_isSound 106 = .ok (.aload_n 0, 1) := dk_42 (dk_at dksX1_isSound_4 12 rfl rfl)
theorem dX1_isSound_107 : decode cX1_isSound 107 = .ok (.getfield 79, 3) := dk_180 0 79 (dk_at dksX1_isSound_4 13 rfl rfl)
theorem dX1_isSound_110 : decode cX1_isSound 110 = .ok (.iload 6, 2) := dk_21 6 (dk_at dksX1_isSound_4 16 rfl rfl)
theorem dX1_isSound_112 : decode cX1_isSound 112 = .ok (.iaload, 1) := dk_46 (dk_at dksX1_isSound_4 18 rfl rfl)
theorem dX1_isSound_113 : decode cX1_isSound 113 = .ok (.isub, 1) := dk_100 (dk_at dksX1_isSound_4 19 rfl rfl)
theorem dX1_isSound_114 : decode cX1_isSound 114 = .ok (.istore 7, 2) := dk_54 7 (dk_at dksX1_isSound_4 20 rfl rfl)
theorem dX1_isSound_116 : decode cX1_isSound 116 = .ok (.iload 4, 2) := dk_21 4 (dk_at dksX1_isSound_4 22 rfl rfl)
theorem dX1_isSound_118 : decode cX1_isSound 118 = .ok (.ifCond .eq 26, 3) := dk_153 0 26 (dk_at dksX1_isSound_5 0 rfl rfl)
theorem dX1_isSound_121 : decode cX1_isSound 121 = .ok (.iload 7, 2) := dk_21 7 (dk_at dksX1_isSound_5 3 rfl rfl)
theorem dX1_isSound_123 : decode cX1_isSound 123 = .ok (.ifCond .lt 21, 3) := dk_155 0 21 (dk_at dksX1_isSound_5 5 rfl rfl)
theorem dX1_isSound_126 : decode cX1_isSound 126 = .ok (.iload 6, 2) := dk_21 6 (dk_at dksX1_isSound_5 8 rfl rfl)
theorem dX1_isSound_128 : decode cX1_isSound 128 = .ok (.iload_n 2, 1) := dk_28 (dk_at dksX1_isSound_5 10 rfl rfl)
theorem dX1_isSound_129 : decode cX1_isSound 129 = .ok (.bipush 10, 2) := dk_16 10 (dk_at dksX1_isSound_5 11 rfl rfl)
theorem dX1_isSound_131 : decode cX1_isSound 131 = .ok (.irem, 1) := dk_112 (dk_at dksX1_isSound_5 13 rfl rfl)
theorem dX1_isSound_132 : decode cX1_isSound 132 = .ok (.if_icmp .ne 8, 3) := dk_160 0 8 (dk_at dksX1_isSound_5 14 rfl rfl)
theorem dX1_isSound_135 : decode cX1_isSound 135 = .ok (.iload 7, 2) := dk_21 7 (dk_at dksX1_isSound_5 17 rfl rfl)
theorem dX1_isSound_137 : decode cX1_isSound 137 = .ok (.ifCond .ne 7, 3) := dk_154 0 7 (dk_at dksX1_isSound_5 19 rfl rfl)
theorem dX1_isSound_140 : decode cX1_isSound 140 = .ok (.iconst 1, 1) := dk_4 (dk_at dksX1_isSound_5 22 rfl rfl)
theorem dX1_isSound_141 : decode cX1_isSound 141 = .ok (.goto 4, 3) := dk_167 0 4 (dk_at dksX1_isSound_6 0 rfl rfl)
theorem dX1_isSound_144 : decode cX1_isSound 144 = .ok (.iconst 0, 1) := dk_3 (dk_at dksX1_isSound_6 3 rfl rfl)
theorem dX1_isSound_145 : decode cX1_isSound 145 = .ok (.istore 4, 2) := dk_54 4 (dk_at dksX1_isSound_6 4 rfl rfl)
theorem dX1_isSound_147 : decode cX1_isSound 147 = .ok (.iinc 6 1, 3) := dk_132 6 1 (dk_at dksX1_isSound_6 6 rfl rfl)
theorem dX1_isSound_150 : decode cX1_isSound 150 = .ok (.goto (-71), 3) := dk_167 255 185 (dk_at dksX1_isSound_6 9 rfl rfl)
theorem dX1_isSound_153 : decode cX1_isSound 153 = .ok (.iload_n 2, 1) := dk_28 (dk_at dksX1_isSound_6 12 rfl rfl)
theorem dX1_isSound_154 : decode cX1_isSound 154 = .ok (.bipush 10, 2) := dk_16 10 (dk_at dksX1_isSound_6 13 rfl rfl)
theorem dX1_isSound_156 : decode cX1_isSound 156 = .ok (.idiv, 1) := dk_108 (dk_at dksX1_isSound_6 15 rfl rfl)
theorem dX1_isSound_157 : decode cX1_isSound 157 = .ok (.istore_n 2, 1) := dk_61 (dk_at dksX1_isSound_6 16 rfl rfl)
theorem dX1_isSound_158 : decode cX1_isSound 158 = .ok (.iinc 5 1, 3) := dk_132 5 1 (dk_at dksX1_isSound_6 17 rfl rfl)
theorem dX1_isSound_161 : decode cX1_isSound 161 = .ok (.goto (-112), 3) := dk_167 255 144 (dk_at dksX1_isSound_6 20 rfl rfl)
theorem dX1_isSound_164 : decode cX1_isSound 164 = .ok (.aload_n 0, 1) := dk_42 (dk_at dksX1_isSound_6 23 rfl rfl)
theorem dX1_isSound_165 : decode cX1_isSound 165 = .ok (.iconst 0, 1) := dk_3 (dk_at dksX1_isSound_7 0 rfl rfl)
theorem dX1_isSound_166 : decode cX1_isSound 166 = .ok (.iconst 0, 1) := dk_3 (dk_at dksX1_isSound_7 1 rfl rfl)
theorem dX1_isSound_167 : decode cX1_isSound 167 = .ok (.invokevirtual 355, 3) := dk_182 1 99 (dk_at dksX1_isSound_7 2 rfl rfl)
theorem dX1_isSound_170 : decode cX1_isSound 170 = .ok (.istore 5, 2) := dk_54 5 (dk_at dksX1_isSound_7 5 rfl rfl)
theorem dX1_isSound_172 : decode cX1_isSound 172 = .ok (.aload_n 0, 1) := dk_42 (dk_at dksX1_isSound_7 7 rfl rfl)
theorem dX1_isSound_173 : decode cX1_isSound 173 = .ok (.iconst 0, 1) := dk_3 (dk_at dksX1_isSound_7 8 rfl rfl)
theorem dX1_isSound_174 : decode cX1_isSound 174 = .ok (.iconst 0, 1) := dk_3 (dk_at dksX1_isSound_7 9 rfl rfl)
theorem dX1_isSound_175 : decode cX1_isSound 175 = .ok (.invokevirtual 298, 3) := dk_182 1 42 (dk_at dksX1_isSound_7 10 rfl rfl)
theorem dX1_isSound_178 : decode cX1_isSound 178 = .ok (.istore 6, 2) := dk_54 6 (dk_at dksX1_isSound_7 13 rfl rfl)
theorem dX1_isSound_180 : decode cX1_isSound 180 = .ok (.aload_n 0, 1) := dk_42 (dk_at dksX1_isSound_7 15 rfl rfl)
theorem dX1_isSound_181 : decode cX1_isSound 181 = .ok (.invokevirtual 358, 3) := dk_182 1 102 (dk_at dksX1_isSound_7 16 rfl rfl)
theorem dX1_isSound_184 : decode cX1_isSound 184 = .ok (.istore 7, 2) := dk_54 7 (dk_at dksX1_isSound_7 19 rfl rfl)
theorem dX1_isSound_186 : decode cX1_isSound 186 = .ok (.iload 4, 2) := dk_21 4 (dk_at dksX1_isSound_7 21 rfl rfl)
theorem dX1_isSound_188 : decode cX1_isSound 188 = .ok (.ifCond .eq 36, 3) := dk_153 0 36 (dk_at dksX1_isSound_8 0 rfl rfl)
theorem dX1_isSound_191 : decode cX1_isSound 191 = .ok (.iload_n 3, 1) := dk_29 (dk_at dksX1_isSound_8 3 rfl rfl)
theorem dX1_isSound_192 : decode cX1_isSound 192 = .ok (.iload_n 1, 1) := dk_27 (dk_at dksX1_isSound_8 4 rfl rfl)
theorem dX1_isSound_193 : decode cX1_isSound 193 = .ok (.if_icmp .ne 31, 3) := dk_160 0 31 (dk_at dksX1_isSound_8 5 rfl rfl)
theorem dX1_isSound_196 : decode cX1_isSound 196 = .ok (.iload_n 1, 1) := dk_27 (dk_at dksX1_isSound_8 8 rfl rfl)
theorem dX1_isSound_197 : decode cX1_isSound 197 = .ok (.aload_n 0, 1) := dk_42 (dk_at dksX1_isSound_8 9 rfl rfl)
theorem dX1_isSound_198 : decode cX1_isSound 198 = .ok (.getfield 7, 3) := dk_180 0 7 (dk_at dksX1_isSound_8 10 rfl rfl)
theorem dX1_isSound_201 : decode cX1_isSound 201 = .ok (.iconst 1, 1) := dk_4 (dk_at dksX1_isSound_8 13 rfl rfl)
theorem dX1_isSound_202 : decode cX1_isSound 202 = .ok (.if_icmp .ne 8, 3) := dk_160 0 8 (dk_at dksX1_isSound_8 14 rfl rfl)
theorem dX1_isSound_205 : decode cX1_isSound 205 = .ok (.iload 5, 2) := dk_21 5 (dk_at dksX1_isSound_8 17 rfl rfl)
theorem dX1_isSound_207 : decode cX1_isSound 207 = .ok (.goto 10, 3) := dk_167 0 10 (dk_at dksX1_isSound_8 19 rfl rfl)
theorem dX1_isSound_210 : decode cX1_isSound 210 = .ok (.iload 5, 2) := dk_21 5 (dk_at dksX1_isSound_8 22 rfl rfl)
theorem dX1_isSound_212 : decode cX1_isSound 212 = .ok (.iload 6, 2) := dk_21 6 (dk_at dksX1_isSound_9 0 rfl rfl)
theorem dX1_isSound_214 : decode cX1_isSound 214 = .ok (.invokestatic 190, 3) := dk_184 0 190 (dk_at dksX1_isSound_9 2 rfl rfl)
theorem dX1_isSound_217 : decode cX1_isSound 217 = .ok (.if_icmp .ne 7, 3) := dk_160 0 7 (dk_at dksX1_isSound_9 5 rfl rfl)
theorem dX1_isSound_220 : decode cX1_isSound 220 = .ok (.iconst 1, 1) := dk_4 (dk_at dksX1_isSound_9 8 rfl rfl)
theorem dX1_isSound_221 : decode cX1_isSound 221 = .ok (.goto 4, 3) := dk_167 0 4 (dk_at dksX1_isSound_9 9 rfl rfl)
theorem dX1_isSound_224 : decode cX1_isSound 224 = .ok (.iconst 0, 1) := dk_3 (dk_at dksX1_isSound_9 12 rfl rfl)
theorem dX1_isSound_225 : decode cX1_isSound 225 = .ok (.istore 4, 2) := dk_54 4 (dk_at dksX1_isSound_9 13 rfl rfl)
theorem dX1_isSound_227 : decode cX1_isSound 227 = .ok (.iload 4, 2) := dk_21 4 (dk_at dksX1_isSound_9 15 rfl rfl)
theorem dX1_isSound_229 : decode cX1_isSound 229 = .ok (.ifCond .eq 32, 3) := dk_153 0 32 (dk_at dksX1_isSound_9 17 rfl rfl)
theorem dX1_isSound_232 : decode cX1_isSound 232 = .ok (.aload_n 0, 1) := dk_42 (dk_at dksX1_isSound_9 20 rfl rfl)
theorem dX1_isSound_233 : decode cX1_isSound 233 = .ok (.iload 7, 2) := dk_21 7 (dk_at dksX1_isSound_9 21 rfl rfl)
theorem dX1_isSound_235 : decode cX1_isSound 235 = .ok (.invokevirtual 305, 3) := dk_182 1 49 (dk_at dksX1_isSound_10 0 rfl rfl)
theorem dX1_isSound_238 : decode cX1_isSound 238 = .ok (.ifCond .eq 23, 3) := dk_153 0 23 (dk_at dksX1_isSound_10 3 rfl rfl)
theorem dX1_isSound_241 : decode cX1_isSound 241 = .ok (.iload 7, 2) := dk_21 7 (dk_at dksX1_isSound_10 6 rfl rfl)
theorem dX1_isSound_243 : decode cX1_isSound 243 = .ok (.ifCond .eq 14, 3) := dk_153 0 14 (dk_at dksX1_isSound_10 8 rfl rfl)
theorem dX1_isSound_246 : decode cX1_isSound 246 = .ok (.aload_n 0, 1) := dk_42 (dk_at dksX1_isSound_10 11 rfl rfl)
theorem dX1_isSound_247 : decode cX1_isSound 247 = .ok (.iload 7, 2) := dk_21 7 (dk_at dksX1_isSound_10 12 rfl rfl)
theorem dX1_isSound_249 : decode cX1_isSound 249 = .ok (.iconst 1, 1) := dk_4 (dk_at dksX1_isSound_10 14 rfl rfl)
theorem dX1_isSound_250 : decode cX1_isSound 250 = .ok (.isub, 1) := dk_100 (dk_at dksX1_isSound_10 15 rfl rfl)
theorem dX1_isSound_251 : decode cX1_isSound 251 = .ok (.invokevirtual 305, 3) := dk_182 1 49 (dk_at dksX1_isSound_10 16 rfl rfl)
theorem dX1_isSound_254 : decode cX1_isSound 254 = .ok (.ifCond .ne 7, 3) := dk_154 0 7 (dk_at dksX1_isSound_10 19 rfl rfl)
theorem dX1_isSound_257 : decode cX1_isSound 257 = .ok (.iconst 1, 1) := dk_4 (dk_at dksX1_isSound_10 22 rfl rfl)
theorem dX1_isSound_258 : decode cX1_isSound 258 = .ok (.goto 4, 3) := dk_167 0 4 (dk_at dksX1_isSound_11 0 rfl rfl)
theorem dX1_isSound_261 : decode cX1_isSound 261 = .ok (.iconst 0, 1) := dk_3 (dk_at dksX1_isSound_11 3 rfl rfl)
theorem dX1_isSound_262 : decode cX1_isSound 262 = .ok (.ireturn, 1) := dk_172 (dk_at dksX1_isSound_11 4 rfl rfl)
abbrev cX1_findPotentials : ByteArray := prog_1_method_47_code
def yX1_findPotentials : MethodName := ⟨RX1, "findPotentials", "()I"⟩
def dkwX1_findPotentials_9 : List UInt8 := [172]
abbrev dktX1_findPotentials_9 : List UInt8 := dkwX1_findPotentials_9 ++ []
def dkwX1_findPotentials_8 : List UInt8 := [184, 0, 190, 62, 132, 4, 1, 167, 255, 222, 42, 180, 0, 79, 28, 29, 79, 132, 2, 1, 167, 255, 195, 27]
abbrev dktX1_findPotentials_8 : List UInt8 := dkwX1_findPotentials_8 ++ dktX1_findPotentials_9
def dkwX1_findPotentials_7 : List UInt8 := [180, 0, 7, 162, 0, 31, 29, 42, 180, 0, 35, 21, 4, 50, 28, 46, 42, 180, 0, 76, 21, 4, 46, 100]
abbrev dktX1_findPotentials_7 : List UInt8 := dkwX1_findPotentials_7 ++ dktX1_findPotentials_8
def dkwX1_findPotentials_6 : List UInt8 := [167, 255, 219, 3, 61, 28, 42, 180, 0, 7, 162, 0, 59, 18, 255, 62, 3, 54, 4, 21, 4, 42]
abbrev dktX1_findPotentials_6 : List UInt8 := dkwX1_findPotentials_6 ++ dktX1_findPotentials_7
def dkwX1_findPotentials_5 : List UInt8 := [42, 180, 0, 38, 28, 46, 42, 180, 0, 42, 3, 46, 96, 42, 180, 0, 51, 28, 46, 100, 79, 132, 2, 1]
abbrev dktX1_findPotentials_5 : List UInt8 := dkwX1_findPotentials_5 ++ dktX1_findPotentials_6
def dkwX1_findPotentials_4 : List UInt8 := [167, 255, 204, 132, 2, 1, 167, 255, 182, 3, 61, 28, 42, 180, 0, 7, 162, 0, 35, 42, 180, 0, 76, 28]
abbrev dktX1_findPotentials_4 : List UInt8 := dkwX1_findPotentials_4 ++ dktX1_findPotentials_5
def dkwX1_findPotentials_3 : List UInt8 := [46, 42, 29, 21, 4, 182, 1, 6, 96, 42, 180, 0, 45, 21, 4, 46, 182, 1, 9, 132, 4, 1]
abbrev dktX1_findPotentials_3 : List UInt8 := dkwX1_findPotentials_3 ++ dktX1_findPotentials_4
def dkwX1_findPotentials_2 : List UInt8 := [162, 0, 49, 42, 180, 0, 57, 42, 180, 0, 45, 21, 4, 46, 51, 154, 0, 28, 42, 42, 180, 0, 51, 29]
abbrev dktX1_findPotentials_2 : List UInt8 := dkwX1_findPotentials_2 ++ dktX1_findPotentials_3
def dkwX1_findPotentials_1 : List UInt8 := [3, 61, 28, 42, 180, 0, 7, 162, 0, 72, 42, 182, 1, 18, 62, 4, 54, 4, 21, 4, 42, 180, 0, 7]
abbrev dktX1_findPotentials_1 : List UInt8 := dkwX1_findPotentials_1 ++ dktX1_findPotentials_2
def dkwX1_findPotentials_0 : List UInt8 := [42, 182, 1, 28, 42, 182, 1, 30, 60, 42, 182, 1, 12, 42, 3, 42, 180, 0, 45, 3, 46, 182, 1, 9]
abbrev dktX1_findPotentials_0 : List UInt8 := dkwX1_findPotentials_0 ++ dktX1_findPotentials_1
theorem dksX1_findPotentials_0 : cX1_findPotentials.data.toList.drop 0 = dktX1_findPotentials_0 := by decide +kernel
theorem dksX1_findPotentials_1 : cX1_findPotentials.data.toList.drop 24 = dktX1_findPotentials_1 := dk_seg dksX1_findPotentials_0 24 rfl rfl
theorem dksX1_findPotentials_2 : cX1_findPotentials.data.toList.drop 48 = dktX1_findPotentials_2 := dk_seg dksX1_findPotentials_1 24 rfl rfl
theorem dksX1_findPotentials_3 : cX1_findPotentials.data.toList.drop 72 = dktX1_findPotentials_3 := dk_seg dksX1_findPotentials_2 24 rfl rfl
theorem dksX1_findPotentials_4 : cX1_findPotentials.data.toList.drop 94 = dktX1_findPotentials_4 := dk_seg dksX1_findPotentials_3 22 rfl rfl
theorem dksX1_findPotentials_5 : cX1_findPotentials.data.toList.drop 118 = dktX1_findPotentials_5 := dk_seg dksX1_findPotentials_4 24 rfl rfl
theorem dksX1_findPotentials_6 : cX1_findPotentials.data.toList.drop 142 = dktX1_findPotentials_6 := dk_seg dksX1_findPotentials_5 24 rfl rfl
theorem dksX1_findPotentials_7 : cX1_findPotentials.data.toList.drop 164 = dktX1_findPotentials_7 := dk_seg dksX1_findPotentials_6 22 rfl rfl
theorem dksX1_findPotentials_8 : cX1_findPotentials.data.toList.drop 188 = dktX1_findPotentials_8 := dk_seg dksX1_findPotentials_7 24 rfl rfl
theorem dksX1_findPotentials_9 : cX1_findPotentials.data.toList.drop 212 = dktX1_findPotentials_9 := dk_seg dksX1_findPotentials_8 24 rfl rfl
theorem dX1_findPotentials_0 : decode cX1_findPotentials 0 = .ok (.aload_n 0, 1) := dk_42 (dk_at dksX1_findPotentials_0 0 rfl rfl)
theorem dX1_findPotentials_1 : decode cX1_findPotentials 1 = .ok (.invokevirtual 284, 3) := dk_182 1 28 (dk_at dksX1_findPotentials_0 1 rfl rfl)
theorem dX1_findPotentials_4 : decode cX1_findPotentials 4 = .ok (.aload_n 0, 1) := dk_42 (dk_at dksX1_findPotentials_0 4 rfl rfl)
theorem dX1_findPotentials_5 : decode cX1_findPotentials 5 = .ok (.invokevirtual 286, 3) := dk_182 1 30 (dk_at dksX1_findPotentials_0 5 rfl rfl)
theorem dX1_findPotentials_8 : decode cX1_findPotentials 8 = .ok (.istore_n 1, 1) := dk_60 (dk_at dksX1_findPotentials_0 8 rfl rfl)
theorem dX1_findPotentials_9 : decode cX1_findPotentials 9 = .ok (.aload_n 0, 1) := dk_42 (dk_at dksX1_findPotentials_0 9 rfl rfl)
theorem dX1_findPotentials_10 : decode cX1_findPotentials 10 = .ok (.invokevirtual 268, 3) := dk_182 1 12 (dk_at dksX1_findPotentials_0 10 rfl rfl)
theorem dX1_findPotentials_13 : decode cX1_findPotentials 13 = .ok (.aload_n 0, 1) := dk_42 (dk_at dksX1_findPotentials_0 13 rfl rfl)
theorem dX1_findPotentials_14 : decode cX1_findPotentials 14 = .ok (.iconst 0, 1) := dk_3 (dk_at dksX1_findPotentials_0 14 rfl rfl)
theorem dX1_findPotentials_15 : decode cX1_findPotentials 15 = .ok (.aload_n 0, 1) := dk_42 (dk_at dksX1_findPotentials_0 15 rfl rfl)
theorem dX1_findPotentials_16 : decode cX1_findPotentials 16 = .ok (.getfield 45, 3) := dk_180 0 45 (dk_at dksX1_findPotentials_0 16 rfl rfl)
theorem dX1_findPotentials_19 : decode cX1_findPotentials 19 = .ok (.iconst 0, 1) := dk_3 (dk_at dksX1_findPotentials_0 19 rfl rfl)
theorem dX1_findPotentials_20 : decode cX1_findPotentials 20 = .ok (.iaload, 1) := dk_46 (dk_at dksX1_findPotentials_0 20 rfl rfl)
theorem dX1_findPotentials_21 : decode cX1_findPotentials 21 = .ok (.invokevirtual 265, 3) := dk_182 1 9 (dk_at dksX1_findPotentials_0 21 rfl rfl)
theorem dX1_findPotentials_24 : decode cX1_findPotentials 24 = .ok (.iconst 0, 1) := dk_3 (dk_at dksX1_findPotentials_1 0 rfl rfl)
theorem dX1_findPotentials_25 : decode cX1_findPotentials 25 = .ok (.istore_n 2, 1) := dk_61 (dk_at dksX1_findPotentials_1 1 rfl rfl)
theorem dX1_findPotentials_26 : decode cX1_findPotentials 26 = .ok (.iload_n 2, 1) := dk_28 (dk_at dksX1_findPotentials_1 2 rfl rfl)
theorem dX1_findPotentials_27 : decode cX1_findPotentials 27 = .ok (.aload_n 0, 1) := dk_42 (dk_at dksX1_findPotentials_1 3 rfl rfl)
theorem dX1_findPotentials_28 : decode cX1_findPotentials 28 = .ok (.getfield 7, 3) := dk_180 0 7 (dk_at dksX1_findPotentials_1 4 rfl rfl)
theorem dX1_findPotentials_31 : decode cX1_findPotentials 31 = .ok (.if_icmp .ge 72, 3) := dk_162 0 72 (dk_at dksX1_findPotentials_1 7 rfl rfl)
theorem dX1_findPotentials_34 : decode cX1_findPotentials 34 = .ok (.aload_n 0, 1) := dk_42 (dk_at dksX1_findPotentials_1 10 rfl rfl)
theorem dX1_findPotentials_35 : decode cX1_findPotentials 35 = .ok (.invokevirtual 274, 3) := dk_182 1 18 (dk_at dksX1_findPotentials_1 11 rfl rfl)
theorem dX1_findPotentials_38 : decode cX1_findPotentials 38 = .ok (.istore_n 3, 1) := dk_62 (dk_at dksX1_findPotentials_1 14 rfl rfl)
theorem dX1_findPotentials_39 : decode cX1_findPotentials 39 = .ok (.iconst 1, 1) := dk_4 (dk_at dksX1_findPotentials_1 15 rfl rfl)
theorem dX1_findPotentials_40 : decode cX1_findPotentials 40 = .ok (.istore 4, 2) := dk_54 4 (dk_at dksX1_findPotentials_1 16 rfl rfl)
theorem dX1_findPotentials_42 : decode cX1_findPotentials 42 = .ok (.iload 4, 2) := dk_21 4 (dk_at dksX1_findPotentials_1 18 rfl rfl)
theorem dX1_findPotentials_44 : decode cX1_findPotentials 44 = .ok (.aload_n 0, 1) := dk_42 (dk_at dksX1_findPotentials_1 20 rfl rfl)
theorem dX1_findPotentials_45 : decode cX1_findPotentials 45 = .ok (.getfield 7, 3) := dk_180 0 7 (dk_at dksX1_findPotentials_1 21 rfl rfl)
theorem dX1_findPotentials_48 : decode cX1_findPotentials 48 = .ok (.if_icmp .ge 49, 3) := dk_162 0 49 (dk_at dksX1_findPotentials_2 0 rfl rfl)
theorem dX1_findPotentials_51 : decode cX1_findPotentials 51 = .ok (.aload_n 0, 1) := dk_42 (dk_at dksX1_findPotentials_2 3 rfl rfl)
theorem dX1_findPotentials_52 : decode cX1_findPotentials 52 = .ok (.getfield 57, 3) := dk_180 0 57 (dk_at dksX1_findPotentials_2 4 rfl rfl)
theorem dX1_findPotentials_55 : decode cX1_findPotentials 55 = .ok (.aload_n 0, 1) := dk_42 (dk_at dksX1_findPotentials_2 7 rfl rfl)
theorem dX1_findPotentials_56 : decode cX1_findPotentials 56 = .ok (.getfield 45, 3) := dk_180 0 45 (dk_at dksX1_findPotentials_2 8 rfl rfl)
theorem dX1_findPotentials_59 : decode cX1_findPotentials 59 = .ok (.iload 4, 2) := dk_21 4 (dk_at dksX1_findPotentials_2 11 rfl rfl)
theorem dX1_findPotentials_61 : decode cX1_findPotentials 61 = .ok (.iaload, 1) := dk_46 (dk_at dksX1_findPotentials_2 13 rfl rfl)
theorem dX1_findPotentials_62 : decode cX1_findPotentials 62 = .ok (.baload, 1) := dk_51 (dk_at dksX1_findPotentials_2 14 rfl rfl)
theorem dX1_findPotentials_63 : decode cX1_findPotentials 63 = .ok (.ifCond .ne 28, 3) := dk_154 0 28 (dk_at dksX1_findPotentials_2 15 rfl rfl)
theorem dX1_findPotentials_66 : decode cX1_findPotentials 66 = .ok (.aload_n 0, 1) := dk_42 (dk_at dksX1_findPotentials_2 18 rfl rfl)
theorem dX1_findPotentials_67 : decode cX1_findPotentials 67 = .ok (.aload_n 0, 1) := dk_42 (dk_at dksX1_findPotentials_2 19 rfl rfl)
theorem dX1_findPotentials_68 : decode cX1_findPotentials 68 = .ok (.getfield 51, 3) := dk_180 0 51 (dk_at dksX1_findPotentials_2 20 rfl rfl)
theorem dX1_findPotentials_71 : decode cX1_findPotentials 71 = .ok (.iload_n 3, 1) := dk_29 (dk_at dksX1_findPotentials_2 23 rfl rfl)
theorem dX1_findPotentials_72 : decode cX1_findPotentials 72 = .ok (.iaload, 1) := dk_46 (dk_at dksX1_findPotentials_3 0 rfl rfl)
theorem dX1_findPotentials_73 : decode cX1_findPotentials 73 = .ok (.aload_n 0, 1) := dk_42 (dk_at dksX1_findPotentials_3 1 rfl rfl)
theorem dX1_findPotentials_74 : decode cX1_findPotentials 74 = .ok (.iload_n 3, 1) := dk_29 (dk_at dksX1_findPotentials_3 2 rfl rfl)
theorem dX1_findPotentials_75 : decode cX1_findPotentials 75 = .ok (.iload 4, 2) := dk_21 4 (dk_at dksX1_findPotentials_3 3 rfl rfl)
theorem dX1_findPotentials_77 : decode cX1_findPotentials 77 = .ok (.invokevirtual 262, 3) := dk_182 1 6 (dk_at dksX1_findPotentials_3 5 rfl rfl)
theorem dX1_findPotentials_80 : decode cX1_findPotentials 80 = .ok (.iadd, 1) := dk_96 (dk_at dksX1_findPotentials_3 8 rfl rfl)
theorem dX1_findPotentials_81 : decode cX1_findPotentials 81 = .ok (.aload_n 0, 1) := dk_42 (dk_at dksX1_findPotentials_3 9 rfl rfl)
theorem dX1_findPotentials_82 : decode cX1_findPotentials 82 = .ok (.getfield 45, 3) := dk_180 0 45 (dk_at dksX1_findPotentials_3 10 rfl rfl)
theorem dX1_findPotentials_85 : decode cX1_findPotentials 85 = .ok (.iload 4, 2) := dk_21 4 (dk_at dksX1_findPotentials_3 13 rfl rfl)
theorem dX1_findPotentials_87 : decode cX1_findPotentials 87 = .ok (.iaload, 1) := dk_46 (dk_at dksX1_findPotentials_3 15 rfl rfl)
theorem dX1_findPotentials_88 : decode cX1_findPotentials 88 = .ok (.invokevirtual 265, 3) := dk_182 1 9 (dk_at dksX1_findPotentials_3 16 rfl rfl)
theorem dX1_findPotentials_91 : decode cX1_findPotentials 91 = .ok (.iinc 4 1, 3) := dk_132 4 1 (dk_at dksX1_findPotentials_3 19 rfl rfl)
theorem dX1_findPotentials_94 : decode cX1_findPotentials 94 = .ok (.goto (-52), 3) := dk_167 255 204 (dk_at dksX1_findPotentials_4 0 rfl rfl)
theorem dX1_findPotentials_97 : decode cX1_findPotentials 97 = .ok (.iinc 2 1, 3) := dk_132 2 1 (dk_at dksX1_findPotentials_4 3 rfl rfl)
theorem dX1_findPotentials_100 : decode cX1_findPotentials 100 = .ok (.goto (-74), 3) := dk_167 255 182 (dk_at dksX1_findPotentials_4 6 rfl rfl)
theorem dX1_findPotentials_103 : decode cX1_findPotentials 103 = .ok (.iconst 0, 1) := dk_3 (dk_at dksX1_findPotentials_4 9 rfl rfl)
theorem dX1_findPotentials_104 : decode cX1_findPotentials 104 = .ok (.istore_n 2, 1) := dk_61 (dk_at dksX1_findPotentials_4 10 rfl rfl)
theorem dX1_findPotentials_105 : decode cX1_findPotentials 105 = .ok (.iload_n 2, 1) := dk_28 (dk_at dksX1_findPotentials_4 11 rfl rfl)
theorem dX1_findPotentials_106 : decode cX1_findPotentials 106 = .ok (.aload_n 0, 1) := dk_42 (dk_at dksX1_findPotentials_4 12 rfl rfl)
theorem dX1_findPotentials_107 : decode cX1_findPotentials 107 = .ok (.getfield 7, 3) := dk_180 0 7 (dk_at dksX1_findPotentials_4 13 rfl rfl)
theorem dX1_findPotentials_110 : decode cX1_findPotentials 110 = .ok (.if_icmp .ge 35, 3) := dk_162 0 35 (dk_at dksX1_findPotentials_4 16 rfl rfl)
theorem dX1_findPotentials_113 : decode cX1_findPotentials 113 = .ok (.aload_n 0, 1) := dk_42 (dk_at dksX1_findPotentials_4 19 rfl rfl)
theorem dX1_findPotentials_114 : decode cX1_findPotentials 114 = .ok (.getfield 76, 3) := dk_180 0 76 (dk_at dksX1_findPotentials_4 20 rfl rfl)
theorem dX1_findPotentials_117 : decode cX1_findPotentials 117 = .ok (.iload_n 2, 1) := dk_28 (dk_at dksX1_findPotentials_4 23 rfl rfl)
theorem dX1_findPotentials_118 : decode cX1_findPotentials 118 = .ok (.aload_n 0, 1) := dk_42 (dk_at dksX1_findPotentials_5 0 rfl rfl)
theorem dX1_findPotentials_119 : decode cX1_findPotentials 119 = .ok (.getfield 38, 3) := dk_180 0 38 (dk_at dksX1_findPotentials_5 1 rfl rfl)
theorem dX1_findPotentials_122 : decode cX1_findPotentials 122 = .ok (.iload_n 2, 1) := dk_28 (dk_at dksX1_findPotentials_5 4 rfl rfl)
theorem dX1_findPotentials_123 : decode cX1_findPotentials 123 = .ok (.iaload, 1) := dk_46 (dk_at dksX1_findPotentials_5 5 rfl rfl)
theorem dX1_findPotentials_124 : decode cX1_findPotentials 124 = .ok (.aload_n 0, 1) := dk_42 (dk_at dksX1_findPotentials_5 6 rfl rfl)
theorem dX1_findPotentials_125 : decode cX1_findPotentials 125 = .ok (.getfield 42, 3) := dk_180 0 42 (dk_at dksX1_findPotentials_5 7 rfl rfl)
theorem dX1_findPotentials_128 : decode cX1_findPotentials 128 = .ok (.iconst 0, 1) := dk_3 (dk_at dksX1_findPotentials_5 10 rfl rfl)
theorem dX1_findPotentials_129 : decode cX1_findPotentials 129 = .ok (.iaload, 1) := dk_46 (dk_at dksX1_findPotentials_5 11 rfl rfl)
theorem dX1_findPotentials_130 : decode cX1_findPotentials 130 = .ok (.iadd, 1) := dk_96 (dk_at dksX1_findPotentials_5 12 rfl rfl)
theorem dX1_findPotentials_131 : decode cX1_findPotentials 131 = .ok (.aload_n 0, 1) := dk_42 (dk_at dksX1_findPotentials_5 13 rfl rfl)
theorem dX1_findPotentials_132 : decode cX1_findPotentials 132 = .ok (.getfield 51, 3) := dk_180 0 51 (dk_at dksX1_findPotentials_5 14 rfl rfl)
theorem dX1_findPotentials_135 : decode cX1_findPotentials 135 = .ok (.iload_n 2, 1) := dk_28 (dk_at dksX1_findPotentials_5 17 rfl rfl)
theorem dX1_findPotentials_136 : decode cX1_findPotentials 136 = .ok (.iaload, 1) := dk_46 (dk_at dksX1_findPotentials_5 18 rfl rfl)
theorem dX1_findPotentials_137 : decode cX1_findPotentials 137 = .ok (.isub, 1) := dk_100 (dk_at dksX1_findPotentials_5 19 rfl rfl)
theorem dX1_findPotentials_138 : decode cX1_findPotentials 138 = .ok (.iastore, 1) := dk_79 (dk_at dksX1_findPotentials_5 20 rfl rfl)
theorem dX1_findPotentials_139 : decode cX1_findPotentials 139 = .ok (.iinc 2 1, 3) := dk_132 2 1 (dk_at dksX1_findPotentials_5 21 rfl rfl)
theorem dX1_findPotentials_142 : decode cX1_findPotentials 142 = .ok (.goto (-37), 3) := dk_167 255 219 (dk_at dksX1_findPotentials_6 0 rfl rfl)
theorem dX1_findPotentials_145 : decode cX1_findPotentials 145 = .ok (.iconst 0, 1) := dk_3 (dk_at dksX1_findPotentials_6 3 rfl rfl)
theorem dX1_findPotentials_146 : decode cX1_findPotentials 146 = .ok (.istore_n 2, 1) := dk_61 (dk_at dksX1_findPotentials_6 4 rfl rfl)
theorem dX1_findPotentials_147 : decode cX1_findPotentials 147 = .ok (.iload_n 2, 1) := dk_28 (dk_at dksX1_findPotentials_6 5 rfl rfl)
theorem dX1_findPotentials_148 : decode cX1_findPotentials 148 = .ok (.aload_n 0, 1) := dk_42 (dk_at dksX1_findPotentials_6 6 rfl rfl)
theorem dX1_findPotentials_149 : decode cX1_findPotentials 149 = .ok (.getfield 7, 3) := dk_180 0 7 (dk_at dksX1_findPotentials_6 7 rfl rfl)
theorem dX1_findPotentials_152 : decode cX1_findPotentials 152 = .ok (.if_icmp .ge 59, 3) := dk_162 0 59 (dk_at dksX1_findPotentials_6 10 rfl rfl)
theorem dX1_findPotentials_155 : decode cX1_findPotentials 155 = .ok (.ldc 255, 2) := dk_18 255 (dk_at dksX1_findPotentials_6 13 rfl rfl)
theorem dX1_findPotentials_157 : decode cX1_findPotentials 157 = .ok (.istore_n 3, 1) := dk_62 (dk_at dksX1_findPotentials_6 15 rfl rfl)
theorem dX1_findPotentials_158 : decode cX1_findPotentials 158 = .ok (.iconst 0, 1) := dk_3 (dk_at dksX1_findPotentials_6 16 rfl rfl)
theorem dX1_findPotentials_159 : decode cX1_findPotentials 159 = .ok (.istore 4, 2) := dk_54 4 (dk_at dksX1_findPotentials_6 17 rfl rfl)
theorem dX1_findPotentials_161 : decode cX1_findPotentials 161 = .ok (.iload 4, 2) := dk_21 4 (dk_at dksX1_findPotentials_6 19 rfl rfl)
theorem dX1_findPotentials_163 : decode cX1_findPotentials 163 = .ok (.aload_n 0, 1) := dk_42 (dk_at dksX1_findPotentials_6 21 rfl rfl)
theorem dX1_findPotentials_164 : decode cX1_findPotentials 164 = .ok (.getfield 7, 3) := dk_180 0 7 (dk_at dksX1_findPotentials_7 0 rfl rfl)
theorem dX1_findPotentials_167 : decode cX1_findPotentials 167 = .ok (.if_icmp .ge 31, 3) := dk_162 0 31 (dk_at dksX1_findPotentials_7 3 rfl rfl)
theorem dX1_findPotentials_170 : decode cX1_findPotentials 170 = .ok (.iload_n 3, 1) := dk_29 (dk_at dksX1_findPotentials_7 6 rfl rfl)
theorem dX1_findPotentials_171 : decode cX1_findPotentials 171 = .ok (.aload_n 0, 1) := dk_42 (dk_at dksX1_findPotentials_7 7 rfl rfl)
theorem dX1_findPotentials_172 : decode cX1_findPotentials 172 = .ok (.getfield 35, 3) := dk_180 0 35 (dk_at dksX1_findPotentials_7 8 rfl rfl)
theorem dX1_findPotentials_175 : decode cX1_findPotentials 175 = .ok (.iload 4, 2) := dk_21 4 (dk_at dksX1_findPotentials_7 11 rfl rfl)
theorem dX1_findPotentials_177 : decode cX1_findPotentials 177 = .ok (.aaload, 1) := dk_50 (dk_at dksX1_findPotentials_7 13 rfl rfl)
theorem dX1_findPotentials_178 : decode cX1_findPotentials 178 = .ok (.iload_n 2, 1) := dk_28 (dk_at dksX1_findPotentials_7 14 rfl rfl)
theorem dX1_findPotentials_179 : decode cX1_findPotentials 179 = .ok (.iaload, 1) := dk_46 (dk_at dksX1_findPotentials_7 15 rfl rfl)
theorem dX1_findPotentials_180 : decode cX1_findPotentials 180 = .ok (.aload_n 0, 1) := dk_42 (dk_at dksX1_findPotentials_7 16 rfl rfl)
theorem dX1_findPotentials_181 : decode cX1_findPotentials 181 = .ok (.getfield 76, 3) := dk_180 0 76 (dk_at dksX1_findPotentials_7 17 rfl rfl)
theorem dX1_findPotentials_184 : decode cX1_findPotentials 184 = .ok (.iload 4, 2) := dk_21 4 (dk_at dksX1_findPotentials_7 20 rfl rfl)
theorem dX1_findPotentials_186 : decode cX1_findPotentials 186 = .ok (.iaload, 1) := dk_46 (dk_at dksX1_findPotentials_7 22 rfl rfl)
theorem dX1_findPotentials_187 : decode cX1_findPotentials 187 = .ok (.isub, 1) := dk_100 (dk_at dksX1_findPotentials_7 23 rfl rfl)
theorem dX1_findPotentials_188 : decode cX1_findPotentials 188 = .ok (.invokestatic 190, 3) := dk_184 0 190 (dk_at dksX1_findPotentials_8 0 rfl rfl)
theorem dX1_findPotentials_191 : decode cX1_findPotentials 191 = .ok (.istore_n 3, 1) := dk_62 (dk_at dksX1_findPotentials_8 3 rfl rfl)
theorem dX1_findPotentials_192 : decode cX1_findPotentials 192 = .ok (.iinc 4 1, 3) := dk_132 4 1 (dk_at dksX1_findPotentials_8 4 rfl rfl)
theorem dX1_findPotentials_195 : decode cX1_findPotentials 195 = .ok (.goto (-34), 3) := dk_167 255 222 (dk_at dksX1_findPotentials_8 7 rfl rfl)
theorem dX1_findPotentials_198 : decode cX1_findPotentials 198 = .ok (.aload_n 0, 1) := dk_42 (dk_at dksX1_findPotentials_8 10 rfl rfl)
theorem dX1_findPotentials_199 : decode cX1_findPotentials 199 = .ok (.getfield 79, 3) := dk_180 0 79 (dk_at dksX1_findPotentials_8 11 rfl rfl)
theorem dX1_findPotentials_202 : decode cX1_findPotentials 202 = .ok (.iload_n 2, 1) := dk_28 (dk_at dksX1_findPotentials_8 14 rfl rfl)
theorem dX1_findPotentials_203 : decode cX1_findPotentials 203 = .ok (.iload_n 3, 1) := dk_29 (dk_at dksX1_findPotentials_8 15 rfl rfl)
theorem dX1_findPotentials_204 : decode cX1_findPotentials 204 = .ok (.iastore, 1) := dk_79 (dk_at dksX1_findPotentials_8 16 rfl rfl)
theorem dX1_findPotentials_205 : decode cX1_findPotentials 205 = .ok (.iinc 2 1, 3) := dk_132 2 1 (dk_at dksX1_findPotentials_8 17 rfl rfl)
theorem dX1_findPotentials_208 : decode cX1_findPotentials 208 = .ok (.goto (-61), 3) := dk_167 255 195 (dk_at dksX1_findPotentials_8 20 rfl rfl)
theorem dX1_findPotentials_211 : decode cX1_findPotentials 211 = .ok (.iload_n 1, 1) := dk_27 (dk_at dksX1_findPotentials_8 23 rfl rfl)
theorem dX1_findPotentials_212 : decode cX1_findPotentials 212 = .ok (.ireturn, 1) := dk_172 (dk_at dksX1_findPotentials_9 0 rfl rfl)
abbrev cX1_minimumWith : ByteArray := prog_1_method_55_code
def yX1_minimumWith : MethodName := ⟨RX1, "minimumWith", "(II)I"⟩
def dkwX1_minimumWith_3 : List UInt8 := [42, 182, 1, 30, 172]
abbrev dktX1_minimumWith_3 : List UInt8 := dkwX1_minimumWith_3 ++ []
def dkwX1_minimumWith_2 : List UInt8 := [160, 0, 14, 42, 180, 0, 35, 27, 50, 29, 46, 167, 0, 6, 17, 39, 16, 79, 132, 3, 1, 167, 255, 218]
abbrev dktX1_minimumWith_2 : List UInt8 := dkwX1_minimumWith_2 ++ dktX1_minimumWith_3
def dkwX1_minimumWith_1 : List UInt8 := [42, 182, 1, 28, 3, 62, 29, 42, 180, 0, 7, 162, 0, 36, 42, 180, 0, 35, 27, 50, 29, 29, 28]
abbrev dktX1_minimumWith_1 : List UInt8 := dkwX1_minimumWith_1 ++ dktX1_minimumWith_2
def dkwX1_minimumWith_0 : List UInt8 := [42, 27, 182, 0, 169, 153, 0, 15, 42, 28, 182, 0, 169, 153, 0, 7, 4, 167, 0, 4, 3, 184, 0, 176]
abbrev dktX1_minimumWith_0 : List UInt8 := dkwX1_minimumWith_0 ++ dktX1_minimumWith_1
theorem dksX1_minimumWith_0 : cX1_minimumWith.data.toList.drop 0 = dktX1_minimumWith_0 := by decide +kernel
theorem dksX1_minimumWith_1 : cX1_minimumWith.data.toList.drop 24 = dktX1_minimumWith_1 := dk_seg dksX1_minimumWith_0 24 rfl rfl
theorem dksX1_minimumWith_2 : cX1_minimumWith.data.toList.drop 47 = dktX1_minimumWith_2 := dk_seg dksX1_minimumWith_1 23 rfl rfl
theorem dksX1_minimumWith_3 : cX1_minimumWith.data.toList.drop 71 = dktX1_minimumWith_3 := dk_seg dksX1_minimumWith_2 24 rfl rfl
theorem dX1_minimumWith_0 : decode cX1_minimumWith 0 = .ok (.aload_n 0, 1) := dk_42 (dk_at dksX1_minimumWith_0 0 rfl rfl)
theorem dX1_minimumWith_1 : decode cX1_minimumWith 1 = .ok (.iload_n 1, 1) := dk_27 (dk_at dksX1_minimumWith_0 1 rfl rfl)
theorem dX1_minimumWith_2 : decode cX1_minimumWith 2 = .ok (.invokevirtual 169, 3) := dk_182 0 169 (dk_at dksX1_minimumWith_0 2 rfl rfl)
theorem dX1_minimumWith_5 : decode cX1_minimumWith 5 = .ok (.ifCond .eq 15, 3) := dk_153 0 15 (dk_at dksX1_minimumWith_0 5 rfl rfl)
theorem dX1_minimumWith_8 : decode cX1_minimumWith 8 = .ok (.aload_n 0, 1) := dk_42 (dk_at dksX1_minimumWith_0 8 rfl rfl)
theorem dX1_minimumWith_9 : decode cX1_minimumWith 9 = .ok (.iload_n 2, 1) := dk_28 (dk_at dksX1_minimumWith_0 9 rfl rfl)
theorem dX1_minimumWith_10 : decode cX1_minimumWith 10 = .ok (.invokevirtual 169, 3) := dk_182 0 169 (dk_at dksX1_minimumWith_0 10 rfl rfl)
theorem dX1_minimumWith_13 : decode cX1_minimumWith 13 = .ok (.ifCond .eq 7, 3) := dk_153 0 7 (dk_at dksX1_minimumWith_0 13 rfl rfl)
theorem dX1_minimumWith_16 : decode cX1_minimumWith 16 = .ok (.iconst 1, 1) := dk_4 (dk_at dksX1_minimumWith_0 16 rfl rfl)
theorem dX1_minimumWith_17 : decode cX1_minimumWith 17 = .ok (.goto 4, 3) := dk_167 0 4 (dk_at dksX1_minimumWith_0 17 rfl rfl)
theorem dX1_minimumWith_20 : decode cX1_minimumWith 20 = .ok (.iconst 0, 1) := dk_3 (dk_at dksX1_minimumWith_0 20 rfl rfl)
theorem dX1_minimumWith_21 : decode cX1_minimumWith 21 = .ok (.invokestatic 176, 3) := dk_184 0 176 (dk_at dksX1_minimumWith_0 21 rfl rfl)
theorem dX1_minimumWith_24 : decode cX1_minimumWith 24 = .ok (.aload_n 0, 1) := dk_42 (dk_at dksX1_minimumWith_1 0 rfl rfl)
theorem dX1_minimumWith_25 : decode cX1_minimumWith 25 = .ok (.invokevirtual 284, 3) := dk_182 1 28 (dk_at dksX1_minimumWith_1 1 rfl rfl)
theorem dX1_minimumWith_28 : decode cX1_minimumWith 28 = .ok (.iconst 0, 1) := dk_3 (dk_at dksX1_minimumWith_1 4 rfl rfl)
theorem dX1_minimumWith_29 : decode cX1_minimumWith 29 = .ok (.istore_n 3, 1) := dk_62 (dk_at dksX1_minimumWith_1 5 rfl rfl)
theorem dX1_minimumWith_30 : decode cX1_minimumWith 30 = .ok (.iload_n 3, 1) := dk_29 (dk_at dksX1_minimumWith_1 6 rfl rfl)
theorem dX1_minimumWith_31 : decode cX1_minimumWith 31 = .ok (.aload_n 0, 1) := dk_42 (dk_at dksX1_minimumWith_1 7 rfl rfl)
theorem dX1_minimumWith_32 : decode cX1_minimumWith 32 = .ok (.getfield 7, 3) := dk_180 0 7 (dk_at dksX1_minimumWith_1 8 rfl rfl)
theorem dX1_minimumWith_35 : decode cX1_minimumWith 35 = .ok (.if_icmp .ge 36, 3) := dk_162 0 36 (dk_at dksX1_minimumWith_1 11 rfl rfl)
theorem dX1_minimumWith_38 : decode cX1_minimumWith 38 = .ok (.aload_n 0, 1) := dk_42 (dk_at dksX1_minimumWith_1 14 rfl rfl)
theorem dX1_minimumWith_39 : decode cX1_minimumWith 39 = .ok (.getfield 35, 3) := dk_180 0 35 (dk_at dksX1_minimumWith_1 15 rfl rfl)
theorem dX1_minimumWith_42 : decode cX1_minimumWith 42 = .ok (.iload_n 1, 1) := dk_27 (dk_at dksX1_minimumWith_1 18 rfl rfl)
theorem dX1_minimumWith_43 : decode cX1_minimumWith 43 = .ok (.aaload, 1) := dk_50 (dk_at dksX1_minimumWith_1 19 rfl rfl)
theorem dX1_minimumWith_44 : decode cX1_minimumWith 44 = .ok (.iload_n 3, 1) := dk_29 (dk_at dksX1_minimumWith_1 20 rfl rfl)
theorem dX1_minimumWith_45 : decode cX1_minimumWith 45 = .ok (.iload_n 3, 1) := dk_29 (dk_at dksX1_minimumWith_1 21 rfl rfl)
theorem dX1_minimumWith_46 : decode cX1_minimumWith 46 = .ok (.iload_n 2, 1) := dk_28 (dk_at dksX1_minimumWith_1 22 rfl rfl)
theorem dX1_minimumWith_47 : decode cX1_minimumWith 47 = .ok (.if_icmp .ne 14, 3) := dk_160 0 14 (dk_at dksX1_minimumWith_2 0 rfl rfl)
theorem dX1_minimumWith_50 : decode cX1_minimumWith 50 = .ok (.aload_n 0, 1) := dk_42 (dk_at dksX1_minimumWith_2 3 rfl rfl)
theorem dX1_minimumWith_51 : decode cX1_minimumWith 51 = .ok (.getfield 35, 3) := dk_180 0 35 (dk_at dksX1_minimumWith_2 4 rfl rfl)
theorem dX1_minimumWith_54 : decode cX1_minimumWith 54 = .ok (.iload_n 1, 1) := dk_27 (dk_at dksX1_minimumWith_2 7 rfl rfl)
theorem dX1_minimumWith_55 : decode cX1_minimumWith 55 = .ok (.aaload, 1) := dk_50 (dk_at dksX1_minimumWith_2 8 rfl rfl)
theorem dX1_minimumWith_56 : decode cX1_minimumWith 56 = .ok (.iload_n 3, 1) := dk_29 (dk_at dksX1_minimumWith_2 9 rfl rfl)
theorem dX1_minimumWith_57 : decode cX1_minimumWith 57 = .ok (.iaload, 1) := dk_46 (dk_at dksX1_minimumWith_2 10 rfl rfl)
theorem dX1_minimumWith_58 : decode cX1_minimumWith 58 = .ok (.goto 6, 3) := dk_167 0 6 (dk_at dksX1_minimumWith_2 11 rfl rfl)
theorem dX1_minimumWith_61 : decode cX1_minimumWith 61 = .ok (.sipush 10000, 3) := dk_17 39 16 (dk_at dksX1_minimumWith_2 14 rfl rfl)
theorem dX1_minimumWith_64 : decode cX1_minimumWith 64 = .ok (.iastore, 1) := dk_79 (dk_at dksX1_minimumWith_2 17 rfl rfl)
theorem dX1_minimumWith_65 : decode cX1_minimumWith 65 = .ok (.iinc 3 1, 3) := dk_132 3 1 (dk_at dksX1_minimumWith_2 18 rfl rfl)
theorem dX1_minimumWith_68 : decode cX1_minimumWith 68 = .ok (.goto (-38), 3) := dk_167 255 218 (dk_at dksX1_minimumWith_2 21 rfl rfl)
theorem dX1_minimumWith_71 : decode cX1_minimumWith 71 = .ok (.aload_n 0, 1) := dk_42 (dk_at dksX1_minimumWith_3 0 rfl rfl)
theorem dX1_minimumWith_72 : decode cX1_minimumWith 72 = .ok (.invokevirtual 286, 3) := dk_182 1 30 (dk_at dksX1_minimumWith_3 1 rfl rfl)
theorem dX1_minimumWith_75 : decode cX1_minimumWith 75 = .ok (.ireturn, 1) := dk_172 (dk_at dksX1_minimumWith_3 4 rfl rfl)
abbrev cX1_resize : ByteArray := prog_1_method_16_code
def yX1_resize : MethodName := ⟨RX1, "resize", "(II)I"⟩
def dkwX1_resize_2 : List UInt8 := [181, 0, 20, 42, 182, 0, 166, 27, 28, 104, 172]
abbrev dktX1_resize_2 : List UInt8 := dkwX1_resize_2 ++ []
def dkwX1_resize_1 : List UInt8 := [167, 0, 4, 3, 184, 0, 162, 42, 27, 181, 0, 7, 42, 28, 181, 0, 13, 42, 27, 28, 184, 0, 16]
abbrev dktX1_resize_1 : List UInt8 := dkwX1_resize_1 ++ dktX1_resize_2
def dkwX1_resize_0 : List UInt8 := [27, 133, 10, 20, 0, 160, 184, 0, 127, 153, 0, 18, 28, 133, 10, 27, 133, 184, 0, 127, 153, 0, 7, 4]
abbrev dktX1_resize_0 : List UInt8 := dkwX1_resize_0 ++ dktX1_resize_1
theorem dksX1_resize_0 : cX1_resize.data.toList.drop 0 = dktX1_resize_0 := by decide +kernel
theorem dksX1_resize_1 : cX1_resize.data.toList.drop 24 = dktX1_resize_1 := dk_seg dksX1_resize_0 24 rfl rfl
theorem dksX1_resize_2 : cX1_resize.data.toList.drop 47 = dktX1_resize_2 := dk_seg dksX1_resize_1 23 rfl rfl
theorem dX1_resize_0 : decode cX1_resize 0 = .ok (.iload_n 1, 1) := dk_27 (dk_at dksX1_resize_0 0 rfl rfl)
theorem dX1_resize_1 : decode cX1_resize 1 = .ok (.i2l, 1) := dk_133 (dk_at dksX1_resize_0 1 rfl rfl)
theorem dX1_resize_2 : decode cX1_resize 2 = .ok (.lconst 1, 1) := dk_10 (dk_at dksX1_resize_0 2 rfl rfl)
theorem dX1_resize_3 : decode cX1_resize 3 = .ok (.ldc2_w 160, 3) := dk_20 0 160 (dk_at dksX1_resize_0 3 rfl rfl)
theorem dX1_resize_6 : decode cX1_resize 6 = .ok (.invokestatic 127, 3) := dk_184 0 127 (dk_at dksX1_resize_0 6 rfl rfl)
theorem dX1_resize_9 : decode cX1_resize 9 = .ok (.ifCond .eq 18, 3) := dk_153 0 18 (dk_at dksX1_resize_0 9 rfl rfl)
theorem dX1_resize_12 : decode cX1_resize 12 = .ok (.iload_n 2, 1) := dk_28 (dk_at dksX1_resize_0 12 rfl rfl)
theorem dX1_resize_13 : decode cX1_resize 13 = .ok (.i2l, 1) := dk_133 (dk_at dksX1_resize_0 13 rfl rfl)
theorem dX1_resize_14 : decode cX1_resize 14 = .ok (.lconst 1, 1) := dk_10 (dk_at dksX1_resize_0 14 rfl rfl)
theorem dX1_resize_15 : decode cX1_resize 15 = .ok (.iload_n 1, 1) := dk_27 (dk_at dksX1_resize_0 15 rfl rfl)
theorem dX1_resize_16 : decode cX1_resize 16 = .ok (.i2l, 1) := dk_133 (dk_at dksX1_resize_0 16 rfl rfl)
theorem dX1_resize_17 : decode cX1_resize 17 = .ok (.invokestatic 127, 3) := dk_184 0 127 (dk_at dksX1_resize_0 17 rfl rfl)
theorem dX1_resize_20 : decode cX1_resize 20 = .ok (.ifCond .eq 7, 3) := dk_153 0 7 (dk_at dksX1_resize_0 20 rfl rfl)
theorem dX1_resize_23 : decode cX1_resize 23 = .ok (.iconst 1, 1) := dk_4 (dk_at dksX1_resize_0 23 rfl rfl)
theorem dX1_resize_24 : decode cX1_resize 24 = .ok (.goto 4, 3) := dk_167 0 4 (dk_at dksX1_resize_1 0 rfl rfl)
theorem dX1_resize_27 : decode cX1_resize 27 = .ok (.iconst 0, 1) := dk_3 (dk_at dksX1_resize_1 3 rfl rfl)
theorem dX1_resize_28 : decode cX1_resize 28 = .ok (.invokestatic 162, 3) := dk_184 0 162 (dk_at dksX1_resize_1 4 rfl rfl)
theorem dX1_resize_31 : decode cX1_resize 31 = .ok (.aload_n 0, 1) := dk_42 (dk_at dksX1_resize_1 7 rfl rfl)
theorem dX1_resize_32 : decode cX1_resize 32 = .ok (.iload_n 1, 1) := dk_27 (dk_at dksX1_resize_1 8 rfl rfl)
theorem dX1_resize_33 : decode cX1_resize 33 = .ok (.putfield 7, 3) := dk_181 0 7 (dk_at dksX1_resize_1 9 rfl rfl)
theorem dX1_resize_36 : decode cX1_resize 36 = .ok (.aload_n 0, 1) := dk_42 (dk_at dksX1_resize_1 12 rfl rfl)
theorem dX1_resize_37 : decode cX1_resize 37 = .ok (.iload_n 2, 1) := dk_28 (dk_at dksX1_resize_1 13 rfl rfl)
theorem dX1_resize_38 : decode cX1_resize 38 = .ok (.putfield 13, 3) := dk_181 0 13 (dk_at dksX1_resize_1 14 rfl rfl)
theorem dX1_resize_41 : decode cX1_resize 41 = .ok (.aload_n 0, 1) := dk_42 (dk_at dksX1_resize_1 17 rfl rfl)
theorem dX1_resize_42 : decode cX1_resize 42 = .ok (.iload_n 1, 1) := dk_27 (dk_at dksX1_resize_1 18 rfl rfl)
theorem dX1_resize_43 : decode cX1_resize 43 = .ok (.iload_n 2, 1) := dk_28 (dk_at dksX1_resize_1 19 rfl rfl)
theorem dX1_resize_44 : decode cX1_resize 44 = .ok (.invokestatic 16, 3) := dk_184 0 16 (dk_at dksX1_resize_1 20 rfl rfl)
theorem dX1_resize_47 : decode cX1_resize 47 = .ok (.putfield 20, 3) := dk_181 0 20 (dk_at dksX1_resize_2 0 rfl rfl)
theorem dX1_resize_50 : decode cX1_resize 50 = .ok (.aload_n 0, 1) := dk_42 (dk_at dksX1_resize_2 3 rfl rfl)
theorem dX1_resize_51 : decode cX1_resize 51 = .ok (.invokevirtual 166, 3) := dk_182 0 166 (dk_at dksX1_resize_2 4 rfl rfl)
theorem dX1_resize_54 : decode cX1_resize 54 = .ok (.iload_n 1, 1) := dk_27 (dk_at dksX1_resize_2 7 rfl rfl)
theorem dX1_resize_55 : decode cX1_resize 55 = .ok (.iload_n 2, 1) := dk_28 (dk_at dksX1_resize_2 8 rfl rfl)
theorem dX1_resize_56 : decode cX1_resize 56 = .ok (.imul, 1) := dk_104 (dk_at dksX1_resize_2 9 rfl rfl)
theorem dX1_resize_57 : decode cX1_resize 57 = .ok (.ireturn, 1) := dk_172 (dk_at dksX1_resize_2 10 rfl rfl)
abbrev cX1_needNumber : ByteArray := prog_1_method_8_code
def yX1_needNumber : MethodName := ⟨RX1, "needNumber", "(Z)V"⟩
def dkwX1_needNumber_0 : List UInt8 := [26, 154, 0, 11, 187, 0, 121, 89, 183, 0, 123, 191, 177]
abbrev dktX1_needNumber_0 : List UInt8 := dkwX1_needNumber_0 ++ []
theorem dksX1_needNumber_0 : cX1_needNumber.data.toList.drop 0 = dktX1_needNumber_0 := by decide +kernel
theorem dX1_needNumber_0 : decode cX1_needNumber 0 = .ok (.iload_n 0, 1) := dk_26 (dk_at dksX1_needNumber_0 0 rfl rfl)
theorem dX1_needNumber_1 : decode cX1_needNumber 1 = .ok (.ifCond .ne 11, 3) := dk_154 0 11 (dk_at dksX1_needNumber_0 1 rfl rfl)
theorem dX1_needNumber_4 : decode cX1_needNumber 4 = .ok (.new 121, 3) := dk_187 0 121 (dk_at dksX1_needNumber_0 4 rfl rfl)
theorem dX1_needNumber_7 : decode cX1_needNumber 7 = .ok (.dup, 1) := dk_89 (dk_at dksX1_needNumber_0 7 rfl rfl)
theorem dX1_needNumber_8 : decode cX1_needNumber 8 = .ok (.invokespecial 123, 3) := dk_183 0 123 (dk_at dksX1_needNumber_0 8 rfl rfl)
theorem dX1_needNumber_11 : decode cX1_needNumber 11 = .ok (.athrow, 1) := dk_191 (dk_at dksX1_needNumber_0 11 rfl rfl)
theorem dX1_needNumber_12 : decode cX1_needNumber 12 = .ok (.return_, 1) := dk_177 (dk_at dksX1_needNumber_0 12 rfl rfl)
abbrev cX1_setCost : ByteArray := prog_1_method_17_code
def yX1_setCost : MethodName := ⟨RX1, "setCost", "(III)I"⟩
def dkwX1_setCost_3 : List UInt8 := [2, 29, 100, 167, 0, 4, 29, 184, 0, 94, 182, 0, 181, 87, 42, 182, 0, 166, 21, 5, 184, 0, 185, 172]
abbrev dktX1_setCost_3 : List UInt8 := dkwX1_setCost_3 ++ []
def dkwX1_setCost_2 : List UInt8 := [58, 4, 25, 4, 28, 182, 0, 131, 192, 0, 95, 182, 0, 135, 54, 5, 25, 4, 28, 21, 5, 156, 0, 9]
abbrev dktX1_setCost_2 : List UInt8 := dkwX1_setCost_2 ++ dktX1_setCost_3
def dkwX1_setCost_1 : List UInt8 := [29, 133, 9, 20, 0, 179, 184, 0, 127, 184, 0, 162, 42, 180, 0, 20, 27, 182, 0, 131, 192, 0, 91]
abbrev dktX1_setCost_1 : List UInt8 := dkwX1_setCost_1 ++ dktX1_setCost_2
def dkwX1_setCost_0 : List UInt8 := [42, 27, 182, 0, 169, 153, 0, 15, 42, 28, 182, 0, 173, 153, 0, 7, 4, 167, 0, 4, 3, 184, 0, 176]
abbrev dktX1_setCost_0 : List UInt8 := dkwX1_setCost_0 ++ dktX1_setCost_1
theorem dksX1_setCost_0 : cX1_setCost.data.toList.drop 0 = dktX1_setCost_0 := by decide +kernel
theorem dksX1_setCost_1 : cX1_setCost.data.toList.drop 24 = dktX1_setCost_1 := dk_seg dksX1_setCost_0 24 rfl rfl
theorem dksX1_setCost_2 : cX1_setCost.data.toList.drop 47 = dktX1_setCost_2 := dk_seg dksX1_setCost_1 23 rfl rfl
theorem dksX1_setCost_3 : cX1_setCost.data.toList.drop 71 = dktX1_setCost_3 := dk_seg dksX1_setCost_2 24 rfl rfl
theorem dX1_setCost_0 : decode cX1_setCost 0 = .ok (.aload_n 0, 1) := dk_42 (dk_at dksX1_setCost_0 0 rfl rfl)
theorem dX1_setCost_1 : decode cX1_setCost 1 = .ok (.iload_n 1, 1) := dk_27 (dk_at dksX1_setCost_0 1 rfl rfl)
theorem dX1_setCost_2 : decode cX1_setCost 2 = .ok (.invokevirtual 169, 3) := dk_182 0 169 (dk_at dksX1_setCost_0 2 rfl rfl)
theorem dX1_setCost_5 : decode cX1_setCost 5 = .ok (.ifCond .eq 15, 3) := dk_153 0 15 (dk_at dksX1_setCost_0 5 rfl rfl)
theorem dX1_setCost_8 : decode cX1_setCost 8 = .ok (.aload_n 0, 1) := dk_42 (dk_at dksX1_setCost_0 8 rfl rfl)
theorem dX1_setCost_9 : decode cX1_setCost 9 = .ok (.iload_n 2, 1) := dk_28 (dk_at dksX1_setCost_0 9 rfl rfl)
theorem dX1_setCost_10 : decode cX1_setCost 10 = .ok (.invokevirtual 173, 3) := dk_182 0 173 (dk_at dksX1_setCost_0 10 rfl rfl)
theorem dX1_setCost_13 : decode cX1_setCost 13 = .ok (.ifCond .eq 7, 3) := dk_153 0 7 (dk_at dksX1_setCost_0 13 rfl rfl)
theorem dX1_setCost_16 : decode cX1_setCost 16 = .ok (.iconst 1, 1) := dk_4 (dk_at dksX1_setCost_0 16 rfl rfl)
theorem dX1_setCost_17 : decode cX1_setCost 17 = .ok (.goto 4, 3) := dk_167 0 4 (dk_at dksX1_setCost_0 17 rfl rfl)
theorem dX1_setCost_20 : decode cX1_setCost 20 = .ok (.iconst 0, 1) := dk_3 (dk_at dksX1_setCost_0 20 rfl rfl)
theorem dX1_setCost_21 : decode cX1_setCost 21 = .ok (.invokestatic 176, 3) := dk_184 0 176 (dk_at dksX1_setCost_0 21 rfl rfl)
theorem dX1_setCost_24 : decode cX1_setCost 24 = .ok (.iload_n 3, 1) := dk_29 (dk_at dksX1_setCost_1 0 rfl rfl)
theorem dX1_setCost_25 : decode cX1_setCost 25 = .ok (.i2l, 1) := dk_133 (dk_at dksX1_setCost_1 1 rfl rfl)
theorem dX1_setCost_26 : decode cX1_setCost 26 = .ok (.lconst 0, 1) := dk_9 (dk_at dksX1_setCost_1 2 rfl rfl)
theorem dX1_setCost_27 : decode cX1_setCost 27 = .ok (.ldc2_w 179, 3) := dk_20 0 179 (dk_at dksX1_setCost_1 3 rfl rfl)
theorem dX1_setCost_30 : decode cX1_setCost 30 = .ok (.invokestatic 127, 3) := dk_184 0 127 (dk_at dksX1_setCost_1 6 rfl rfl)
theorem dX1_setCost_33 : decode cX1_setCost 33 = .ok (.invokestatic 162, 3) := dk_184 0 162 (dk_at dksX1_setCost_1 9 rfl rfl)
theorem dX1_setCost_36 : decode cX1_setCost 36 = .ok (.aload_n 0, 1) := dk_42 (dk_at dksX1_setCost_1 12 rfl rfl)
theorem dX1_setCost_37 : decode cX1_setCost 37 = .ok (.getfield 20, 3) := dk_180 0 20 (dk_at dksX1_setCost_1 13 rfl rfl)
theorem dX1_setCost_40 : decode cX1_setCost 40 = .ok (.iload_n 1, 1) := dk_27 (dk_at dksX1_setCost_1 16 rfl rfl)
theorem dX1_setCost_41 : decode cX1_setCost 41 = .ok (.invokevirtual 131, 3) := dk_182 0 131 (dk_at dksX1_setCost_1 17 rfl rfl)
theorem dX1_setCost_44 : decode cX1_setCost 44 = .ok (.checkcast 91, 3) := dk_192 0 91 (dk_at dksX1_setCost_1 20 rfl rfl)
theorem dX1_setCost_47 : decode cX1_setCost 47 = .ok (.astore 4, 2) := dk_58 4 (dk_at dksX1_setCost_2 0 rfl rfl)
theorem dX1_setCost_49 : decode cX1_setCost 49 = .ok (.aload 4, 2) := dk_25 4 (dk_at dksX1_setCost_2 2 rfl rfl)
theorem dX1_setCost_51 : decode cX1_setCost 51 = .ok (.iload_n 2, 1) := dk_28 (dk_at dksX1_setCost_2 4 rfl rfl)
theorem dX1_setCost_52 : decode cX1_setCost 52 = .ok (.invokevirtual 131, 3) := dk_182 0 131 (dk_at dksX1_setCost_2 5 rfl rfl)
theorem dX1_setCost_55 : decode cX1_setCost 55 = .ok (.checkcast 95, 3) := dk_192 0 95 (dk_at dksX1_setCost_2 8 rfl rfl)
theorem dX1_setCost_58 : decode cX1_setCost 58 = .ok (.invokevirtual 135, 3) := dk_182 0 135 (dk_at dksX1_setCost_2 11 rfl rfl)
theorem dX1_setCost_61 : decode cX1_setCost 61 = .ok (.istore 5, 2) := dk_54 5 (dk_at dksX1_setCost_2 14 rfl rfl)
theorem dX1_setCost_63 : decode cX1_setCost 63 = .ok (.aload 4, 2) := dk_25 4 (dk_at dksX1_setCost_2 16 rfl rfl)
theorem dX1_setCost_65 : decode cX1_setCost 65 = .ok (.iload_n 2, 1) := dk_28 (dk_at dksX1_setCost_2 18 rfl rfl)
theorem dX1_setCost_66 : decode cX1_setCost 66 = .ok (.iload 5, 2) := dk_21 5 (dk_at dksX1_setCost_2 19 rfl rfl)
theorem dX1_setCost_68 : decode cX1_setCost 68 = .ok (.ifCond .ge 9, 3) := dk_156 0 9 (dk_at dksX1_setCost_2 21 rfl rfl)
theorem dX1_setCost_71 : decode cX1_setCost 71 = .ok (.iconst (-1), 1) := dk_2 (dk_at dksX1_setCost_3 0 rfl rfl)
theorem dX1_setCost_72 : decode cX1_setCost 72 = .ok (.iload_n 3, 1) := dk_29 (dk_at dksX1_setCost_3 1 rfl rfl)
theorem dX1_setCost_73 : decode cX1_setCost 73 = .ok (.isub, 1) := dk_100 (dk_at dksX1_setCost_3 2 rfl rfl)
theorem dX1_setCost_74 : decode cX1_setCost 74 = .ok (.goto 4, 3) := dk_167 0 4 (dk_at dksX1_setCost_3 3 rfl rfl)
theorem dX1_setCost_77 : decode cX1_setCost 77 = .ok (.iload_n 3, 1) := dk_29 (dk_at dksX1_setCost_3 6 rfl rfl)
theorem dX1_setCost_78 : decode cX1_setCost 78 = .ok (.invokestatic 94, 3) := dk_184 0 94 (dk_at dksX1_setCost_3 7 rfl rfl)
theorem dX1_setCost_81 : decode cX1_setCost 81 = .ok (.invokevirtual 181, 3) := dk_182 0 181 (dk_at dksX1_setCost_3 10 rfl rfl)
theorem dX1_setCost_84 : decode cX1_setCost 84 = .ok (.pop, 1) := dk_87 (dk_at dksX1_setCost_3 13 rfl rfl)
theorem dX1_setCost_85 : decode cX1_setCost 85 = .ok (.aload_n 0, 1) := dk_42 (dk_at dksX1_setCost_3 14 rfl rfl)
theorem dX1_setCost_86 : decode cX1_setCost 86 = .ok (.invokevirtual 166, 3) := dk_182 0 166 (dk_at dksX1_setCost_3 15 rfl rfl)
theorem dX1_setCost_89 : decode cX1_setCost 89 = .ok (.iload 5, 2) := dk_21 5 (dk_at dksX1_setCost_3 18 rfl rfl)
theorem dX1_setCost_91 : decode cX1_setCost 91 = .ok (.invokestatic 185, 3) := dk_184 0 185 (dk_at dksX1_setCost_3 20 rfl rfl)
theorem dX1_setCost_94 : decode cX1_setCost 94 = .ok (.ireturn, 1) := dk_172 (dk_at dksX1_setCost_3 23 rfl rfl)
abbrev cX1_isReal : ByteArray := prog_1_method_11_code
def yX1_isReal : MethodName := ⟨RX1, "isReal", "(I)Z"⟩
def dkwX1_isReal_0 : List UInt8 := [27, 133, 9, 42, 180, 0, 13, 4, 100, 133, 184, 0, 127, 172]
abbrev dktX1_isReal_0 : List UInt8 := dkwX1_isReal_0 ++ []
theorem dksX1_isReal_0 : cX1_isReal.data.toList.drop 0 = dktX1_isReal_0 := by decide +kernel
theorem dX1_isReal_0 : decode cX1_isReal 0 = .ok (.iload_n 1, 1) := dk_27 (dk_at dksX1_isReal_0 0 rfl rfl)
theorem dX1_isReal_1 : decode cX1_isReal 1 = .ok (.i2l, 1) := dk_133 (dk_at dksX1_isReal_0 1 rfl rfl)
theorem dX1_isReal_2 : decode cX1_isReal 2 = .ok (.lconst 0, 1) := dk_9 (dk_at dksX1_isReal_0 2 rfl rfl)
theorem dX1_isReal_3 : decode cX1_isReal 3 = .ok (.aload_n 0, 1) := dk_42 (dk_at dksX1_isReal_0 3 rfl rfl)
theorem dX1_isReal_4 : decode cX1_isReal 4 = .ok (.getfield 13, 3) := dk_180 0 13 (dk_at dksX1_isReal_0 4 rfl rfl)
theorem dX1_isReal_7 : decode cX1_isReal 7 = .ok (.iconst 1, 1) := dk_4 (dk_at dksX1_isReal_0 7 rfl rfl)
theorem dX1_isReal_8 : decode cX1_isReal 8 = .ok (.isub, 1) := dk_100 (dk_at dksX1_isReal_0 8 rfl rfl)
theorem dX1_isReal_9 : decode cX1_isReal 9 = .ok (.i2l, 1) := dk_133 (dk_at dksX1_isReal_0 9 rfl rfl)
theorem dX1_isReal_10 : decode cX1_isReal 10 = .ok (.invokestatic 127, 3) := dk_184 0 127 (dk_at dksX1_isReal_0 10 rfl rfl)
theorem dX1_isReal_13 : decode cX1_isReal 13 = .ok (.ireturn, 1) := dk_172 (dk_at dksX1_isReal_0 13 rfl rfl)
abbrev cX1_numberOf : ByteArray := prog_1_method_5_code
def yX1_numberOf : MethodName := ⟨RX1, "numberOf", "(I)I"⟩
def dkwX1_numberOf_0 : List UInt8 := [26, 156, 0, 9, 2, 26, 100, 167, 0, 4, 26, 172]
abbrev dktX1_numberOf_0 : List UInt8 := dkwX1_numberOf_0 ++ []
theorem dksX1_numberOf_0 : cX1_numberOf.data.toList.drop 0 = dktX1_numberOf_0 := by decide +kernel
theorem dX1_numberOf_0 : decode cX1_numberOf 0 = .ok (.iload_n 0, 1) := dk_26 (dk_at dksX1_numberOf_0 0 rfl rfl)
theorem dX1_numberOf_1 : decode cX1_numberOf 1 = .ok (.ifCond .ge 9, 3) := dk_156 0 9 (dk_at dksX1_numberOf_0 1 rfl rfl)
theorem dX1_numberOf_4 : decode cX1_numberOf 4 = .ok (.iconst (-1), 1) := dk_2 (dk_at dksX1_numberOf_0 4 rfl rfl)
theorem dX1_numberOf_5 : decode cX1_numberOf 5 = .ok (.iload_n 0, 1) := dk_26 (dk_at dksX1_numberOf_0 5 rfl rfl)
theorem dX1_numberOf_6 : decode cX1_numberOf 6 = .ok (.isub, 1) := dk_100 (dk_at dksX1_numberOf_0 6 rfl rfl)
theorem dX1_numberOf_7 : decode cX1_numberOf 7 = .ok (.goto 4, 3) := dk_167 0 4 (dk_at dksX1_numberOf_0 7 rfl rfl)
theorem dX1_numberOf_10 : decode cX1_numberOf 10 = .ok (.iload_n 0, 1) := dk_26 (dk_at dksX1_numberOf_0 10 rfl rfl)
theorem dX1_numberOf_11 : decode cX1_numberOf 11 = .ok (.ireturn, 1) := dk_172 (dk_at dksX1_numberOf_0 11 rfl rfl)
abbrev cX1_setRow : ByteArray := prog_1_method_18_code
def yX1_setRow : MethodName := ⟨RX1, "setRow", "(IJ)I"⟩
def dkwX1_setRow_6 : List UInt8 := [184, 0, 190, 54, 7, 132, 10, 255, 167, 255, 186, 42, 182, 0, 166, 21, 7, 172]
abbrev dktX1_setRow_6 : List UInt8 := dkwX1_setRow_6 ++ []
def dkwX1_setRow_5 : List UInt8 := [156, 0, 10, 2, 21, 11, 100, 167, 0, 5, 21, 11, 184, 0, 94, 182, 0, 181, 87, 21, 7, 21, 11]
abbrev dktX1_setRow_5 : List UInt8 := dkwX1_setRow_5 ++ dktX1_setRow_6
def dkwX1_setRow_4 : List UInt8 := [20, 0, 188, 109, 55, 8, 25, 6, 21, 10, 25, 6, 21, 10, 182, 0, 131, 192, 0, 95, 182, 0, 135]
abbrev dktX1_setRow_4 : List UInt8 := dkwX1_setRow_4 ++ dktX1_setRow_5
def dkwX1_setRow_3 : List UInt8 := [180, 0, 13, 4, 100, 54, 10, 21, 10, 155, 0, 71, 22, 8, 20, 0, 188, 113, 136, 54, 11, 22, 8]
abbrev dktX1_setRow_3 : List UInt8 := dkwX1_setRow_3 ++ dktX1_setRow_4
def dkwX1_setRow_2 : List UInt8 := [184, 0, 162, 42, 180, 0, 20, 27, 182, 0, 131, 192, 0, 91, 58, 6, 16, 99, 54, 7, 32, 55, 8, 42]
abbrev dktX1_setRow_2 : List UInt8 := dkwX1_setRow_2 ++ dktX1_setRow_3
def dkwX1_setRow_1 : List UInt8 := [22, 4, 20, 0, 188, 105, 55, 4, 132, 6, 1, 167, 255, 236, 32, 9, 22, 4, 10, 101, 184, 0, 127]
abbrev dktX1_setRow_1 : List UInt8 := dkwX1_setRow_1 ++ dktX1_setRow_2
def dkwX1_setRow_0 : List UInt8 := [42, 27, 182, 0, 169, 184, 0, 176, 10, 55, 4, 3, 54, 6, 21, 6, 42, 180, 0, 13, 162, 0, 17]
abbrev dktX1_setRow_0 : List UInt8 := dkwX1_setRow_0 ++ dktX1_setRow_1
theorem dksX1_setRow_0 : cX1_setRow.data.toList.drop 0 = dktX1_setRow_0 := by decide +kernel
theorem dksX1_setRow_1 : cX1_setRow.data.toList.drop 23 = dktX1_setRow_1 := dk_seg dksX1_setRow_0 23 rfl rfl
theorem dksX1_setRow_2 : cX1_setRow.data.toList.drop 46 = dktX1_setRow_2 := dk_seg dksX1_setRow_1 23 rfl rfl
theorem dksX1_setRow_3 : cX1_setRow.data.toList.drop 70 = dktX1_setRow_3 := dk_seg dksX1_setRow_2 24 rfl rfl
theorem dksX1_setRow_4 : cX1_setRow.data.toList.drop 93 = dktX1_setRow_4 := dk_seg dksX1_setRow_3 23 rfl rfl
theorem dksX1_setRow_5 : cX1_setRow.data.toList.drop 116 = dktX1_setRow_5 := dk_seg dksX1_setRow_4 23 rfl rfl
theorem dksX1_setRow_6 : cX1_setRow.data.toList.drop 139 = dktX1_setRow_6 := dk_seg dksX1_setRow_5 23 rfl rfl
theorem dX1_setRow_0 : decode cX1_setRow 0 = .ok (.aload_n 0, 1) := dk_42 (dk_at dksX1_setRow_0 0 rfl rfl)
theorem dX1_setRow_1 : decode cX1_setRow 1 = .ok (.iload_n 1, 1) := dk_27 (dk_at dksX1_setRow_0 1 rfl rfl)
theorem dX1_setRow_2 : decode cX1_setRow 2 = .ok (.invokevirtual 169, 3) := dk_182 0 169 (dk_at dksX1_setRow_0 2 rfl rfl)
theorem dX1_setRow_5 : decode cX1_setRow 5 = .ok (.invokestatic 176, 3) := dk_184 0 176 (dk_at dksX1_setRow_0 5 rfl rfl)
theorem dX1_setRow_8 : decode cX1_setRow 8 = .ok (.lconst 1, 1) := dk_10 (dk_at dksX1_setRow_0 8 rfl rfl)
theorem dX1_setRow_9 : decode cX1_setRow 9 = .ok (.lstore 4, 2) := dk_55 4 (dk_at dksX1_setRow_0 9 rfl rfl)
theorem dX1_setRow_11 : decode cX1_setRow 11 = .ok (.iconst 0, 1) := dk_3 (dk_at dksX1_setRow_0 11 rfl rfl)
theorem dX1_setRow_12 : decode cX1_setRow 12 = .ok (.istore 6, 2) := dk_54 6 (dk_at dksX1_setRow_0 12 rfl rfl)
theorem dX1_setRow_14 : decode cX1_setRow 14 = .ok (.iload 6, 2) := dk_21 6 (dk_at dksX1_setRow_0 14 rfl rfl)
theorem dX1_setRow_16 : decode cX1_setRow 16 = .ok (.aload_n 0, 1) := dk_42 (dk_at dksX1_setRow_0 16 rfl rfl)
theorem dX1_setRow_17 : decode cX1_setRow 17 = .ok (.getfield 13, 3) := dk_180 0 13 (dk_at dksX1_setRow_0 17 rfl rfl)
theorem dX1_setRow_20 : decode cX1_setRow 20 = .ok (.if_icmp .ge 17, 3) := dk_162 0 17 (dk_at dksX1_setRow_0 20 rfl rfl)
theorem dX1_setRow_23 : decode cX1_setRow 23 = .ok (.lload 4, 2) := dk_22 4 (dk_at dksX1_setRow_1 0 rfl rfl)
theorem dX1_setRow_25 : decode cX1_setRow 25 = .ok (.ldc2_w 188, 3) := dk_20 0 188 (dk_at dksX1_setRow_1 2 rfl rfl)
theorem dX1_setRow_28 : decode cX1_setRow 28 = .ok (.lmul, 1) := dk_105 (dk_at dksX1_setRow_1 5 rfl rfl)
theorem dX1_setRow_29 : decode cX1_setRow 29 = .ok (.lstore 4, 2) := dk_55 4 (dk_at dksX1_setRow_1 6 rfl rfl)
theorem dX1_setRow_31 : decode cX1_setRow 31 = .ok (.iinc 6 1, 3) := dk_132 6 1 (dk_at dksX1_setRow_1 8 rfl rfl)
theorem dX1_setRow_34 : decode cX1_setRow 34 = .ok (.goto (-20), 3) := dk_167 255 236 (dk_at dksX1_setRow_1 11 rfl rfl)
theorem dX1_setRow_37 : decode cX1_setRow 37 = .ok (.lload_n 2, 1) := dk_32 (dk_at dksX1_setRow_1 14 rfl rfl)
theorem dX1_setRow_38 : decode cX1_setRow 38 = .ok (.lconst 0, 1) := dk_9 (dk_at dksX1_setRow_1 15 rfl rfl)
theorem dX1_setRow_39 : decode cX1_setRow 39 = .ok (.lload 4, 2) := dk_22 4 (dk_at dksX1_setRow_1 16 rfl rfl)
theorem dX1_setRow_41 : decode cX1_setRow 41 = .ok (.lconst 1, 1) := dk_10 (dk_at dksX1_setRow_1 18 rfl rfl)
theorem dX1_setRow_42 : decode cX1_setRow 42 = .ok (.lsub, 1) := dk_101 (dk_at dksX1_setRow_1 19 rfl rfl)
theorem dX1_setRow_43 : decode cX1_setRow 43 = .ok (.invokestatic 127, 3) := dk_184 0 127 (dk_at dksX1_setRow_1 20 rfl rfl)
theorem dX1_setRow_46 : decode cX1_setRow 46 = .ok (.invokestatic 162, 3) := dk_184 0 162 (dk_at dksX1_setRow_2 0 rfl rfl)
theorem dX1_setRow_49 : decode cX1_setRow 49 = .ok (.aload_n 0, 1) := dk_42 (dk_at dksX1_setRow_2 3 rfl rfl)
theorem dX1_setRow_50 : decode cX1_setRow 50 = .ok (.getfield 20, 3) := dk_180 0 20 (dk_at dksX1_setRow_2 4 rfl rfl)
theorem dX1_setRow_53 : decode cX1_setRow 53 = .ok (.iload_n 1, 1) := dk_27 (dk_at dksX1_setRow_2 7 rfl rfl)
theorem dX1_setRow_54 : decode cX1_setRow 54 = .ok (.invokevirtual 131, 3) := dk_182 0 131 (dk_at dksX1_setRow_2 8 rfl rfl)
theorem dX1_setRow_57 : decode cX1_setRow 57 = .ok (.checkcast 91, 3) := dk_192 0 91 (dk_at dksX1_setRow_2 11 rfl rfl)
theorem dX1_setRow_60 : decode cX1_setRow 60 = .ok (.astore 6, 2) := dk_58 6 (dk_at dksX1_setRow_2 14 rfl rfl)
theorem dX1_setRow_62 : decode cX1_setRow 62 = .ok (.bipush 99, 2) := dk_16 99 (dk_at dksX1_setRow_2 16 rfl rfl)
theorem dX1_setRow_64 : decode cX1_setRow 64 = .ok (.istore 7, 2) := dk_54 7 (dk_at dksX1_setRow_2 18 rfl rfl)
theorem dX1_setRow_66 : decode cX1_setRow 66 = .ok (.lload_n 2, 1) := dk_32 (dk_at dksX1_setRow_2 20 rfl rfl)
theorem dX1_setRow_67 : decode cX1_setRow 67 = .ok (.lstore 8, 2) := dk_55 8 (dk_at dksX1_setRow_2 21 rfl rfl)
theorem dX1_setRow_69 : decode cX1_setRow 69 = .ok (.aload_n 0, 1) := dk_42 (dk_at dksX1_setRow_2 23 rfl rfl)
theorem dX1_setRow_70 : decode cX1_setRow 70 = .ok (.getfield 13, 3) := dk_180 0 13 (dk_at dksX1_setRow_3 0 rfl rfl)
theorem dX1_setRow_73 : decode cX1_setRow 73 = .ok (.iconst 1, 1) := dk_4 (dk_at dksX1_setRow_3 3 rfl rfl)
theorem dX1_setRow_74 : decode cX1_setRow 74 = .ok (.isub, 1) := dk_100 (dk_at dksX1_setRow_3 4 rfl rfl)
theorem dX1_setRow_75 : decode cX1_setRow 75 = .ok (.istore 10, 2) := dk_54 10 (dk_at dksX1_setRow_3 5 rfl rfl)
theorem dX1_setRow_77 : decode cX1_setRow 77 = .ok (.iload 10, 2) := dk_21 10 (dk_at dksX1_setRow_3 7 rfl rfl)
theorem dX1_setRow_79 : decode cX1_setRow 79 = .ok (.ifCond .lt 71, 3) := dk_155 0 71 (dk_at dksX1_setRow_3 9 rfl rfl)
theorem dX1_setRow_82 : decode cX1_setRow 82 = .ok (.lload 8, 2) := dk_22 8 (dk_at dksX1_setRow_3 12 rfl rfl)
theorem dX1_setRow_84 : decode cX1_setRow 84 = .ok (.ldc2_w 188, 3) := dk_20 0 188 (dk_at dksX1_setRow_3 14 rfl rfl)
theorem dX1_setRow_87 : decode cX1_setRow 87 = .ok (.lrem, 1) := dk_113 (dk_at dksX1_setRow_3 17 rfl rfl)
theorem dX1_setRow_88 : decode cX1_setRow 88 = .ok (.l2i, 1) := dk_136 (dk_at dksX1_setRow_3 18 rfl rfl)
theorem dX1_setRow_89 : decode cX1_setRow 89 = .ok (.istore 11, 2) := dk_54 11 (dk_at dksX1_setRow_3 19 rfl rfl)
theorem dX1_setRow_91 : decode cX1_setRow 91 = .ok (.lload 8, 2) := dk_22 8 (dk_at dksX1_setRow_3 21 rfl rfl)
theorem dX1_setRow_93 : decode cX1_setRow 93 = .ok (.ldc2_w 188, 3) := dk_20 0 188 (dk_at dksX1_setRow_4 0 rfl rfl)
theorem dX1_setRow_96 : decode cX1_setRow 96 = .ok (.ldiv, 1) := dk_109 (dk_at dksX1_setRow_4 3 rfl rfl)
theorem dX1_setRow_97 : decode cX1_setRow 97 = .ok (.lstore 8, 2) := dk_55 8 (dk_at dksX1_setRow_4 4 rfl rfl)
theorem dX1_setRow_99 : decode cX1_setRow 99 = .ok (.aload 6, 2) := dk_25 6 (dk_at dksX1_setRow_4 6 rfl rfl)
theorem dX1_setRow_101 : decode cX1_setRow 101 = .ok (.iload 10, 2) := dk_21 10 (dk_at dksX1_setRow_4 8 rfl rfl)
theorem dX1_setRow_103 : decode cX1_setRow 103 = .ok (.aload 6, 2) := dk_25 6 (dk_at dksX1_setRow_4 10 rfl rfl)
theorem dX1_setRow_105 : decode cX1_setRow 105 = .ok (.iload 10, 2) := dk_21 10 (dk_at dksX1_setRow_4 12 rfl rfl)
theorem dX1_setRow_107 : decode cX1_setRow 107 = .ok (.invokevirtual 131, 3) := dk_182 0 131 (dk_at dksX1_setRow_4 14 rfl rfl)
theorem dX1_setRow_110 : decode cX1_setRow 110 = .ok (.checkcast 95, 3) := dk_192 0 95 (dk_at dksX1_setRow_4 17 rfl rfl)
theorem dX1_setRow_113 : decode cX1_setRow 113 = .ok (.invokevirtual 135, 3) := dk_182 0 135 (dk_at dksX1_setRow_4 20 rfl rfl)
theorem dX1_setRow_116 : decode cX1_setRow 116 = .ok (.ifCond .ge 10, 3) := dk_156 0 10 (dk_at dksX1_setRow_5 0 rfl rfl)
theorem dX1_setRow_119 : decode cX1_setRow 119 = .ok (.iconst (-1), 1) := dk_2 (dk_at dksX1_setRow_5 3 rfl rfl)
theorem dX1_setRow_120 : decode cX1_setRow 120 = .ok (.iload 11, 2) := dk_21 11 (dk_at dksX1_setRow_5 4 rfl rfl)
theorem dX1_setRow_122 : decode cX1_setRow 122 = .ok (.isub, 1) := dk_100 (dk_at dksX1_setRow_5 6 rfl rfl)
theorem dX1_setRow_123 : decode cX1_setRow 123 = .ok (.goto 5, 3) := dk_167 0 5 (dk_at dksX1_setRow_5 7 rfl rfl)
theorem dX1_setRow_126 : decode cX1_setRow 126 = .ok (.iload 11, 2) := dk_21 11 (dk_at dksX1_setRow_5 10 rfl rfl)
theorem dX1_setRow_128 : decode cX1_setRow 128 = .ok (.invokestatic 94, 3) := dk_184 0 94 (dk_at dksX1_setRow_5 12 rfl rfl)
theorem dX1_setRow_131 : decode cX1_setRow 131 = .ok (.invokevirtual 181, 3) := dk_182 0 181 (dk_at dksX1_setRow_5 15 rfl rfl)
theorem dX1_setRow_134 : decode cX1_setRow 134 = .ok (.pop, 1) := dk_87 (dk_at dksX1_setRow_5 18 rfl rfl)
theorem dX1_setRow_135 : decode cX1_setRow 135 = .ok (.iload 7, 2) := dk_21 7 (dk_at dksX1_setRow_5 19 rfl rfl)
theorem dX1_setRow_137 : decode cX1_setRow 137 = .ok (.iload 11, 2) := dk_21 11 (dk_at dksX1_setRow_5 21 rfl rfl)
theorem dX1_setRow_139 : decode cX1_setRow 139 = .ok (.invokestatic 190, 3) := dk_184 0 190 (dk_at dksX1_setRow_6 0 rfl rfl)
theorem dX1_setRow_142 : decode cX1_setRow 142 = .ok (.istore 7, 2) := dk_54 7 (dk_at dksX1_setRow_6 3 rfl rfl)
theorem dX1_setRow_144 : decode cX1_setRow 144 = .ok (.iinc 10 (-1), 3) := dk_132 10 255 (dk_at dksX1_setRow_6 5 rfl rfl)
theorem dX1_setRow_147 : decode cX1_setRow 147 = .ok (.goto (-70), 3) := dk_167 255 186 (dk_at dksX1_setRow_6 8 rfl rfl)
theorem dX1_setRow_150 : decode cX1_setRow 150 = .ok (.aload_n 0, 1) := dk_42 (dk_at dksX1_setRow_6 11 rfl rfl)
theorem dX1_setRow_151 : decode cX1_setRow 151 = .ok (.invokevirtual 166, 3) := dk_182 0 166 (dk_at dksX1_setRow_6 12 rfl rfl)
theorem dX1_setRow_154 : decode cX1_setRow 154 = .ok (.iload 7, 2) := dk_21 7 (dk_at dksX1_setRow_6 15 rfl rfl)
theorem dX1_setRow_156 : decode cX1_setRow 156 = .ok (.ireturn, 1) := dk_172 (dk_at dksX1_setRow_6 17 rfl rfl)
abbrev cX1_fill : ByteArray := prog_1_method_19_code
def yX1_fill : MethodName := ⟨RX1, "fill", "(II)I"⟩
def dkwX1_fill_5 : List UInt8 := [132, 7, 1, 167, 255, 206, 167, 255, 178, 42, 182, 0, 166, 21, 4, 172]
abbrev dktX1_fill_5 : List UInt8 := dkwX1_fill_5 ++ []
def dkwX1_fill_4 : List UInt8 := [21, 7, 29, 28, 4, 96, 112, 184, 0, 94, 182, 0, 181, 87, 21, 4, 29, 28, 4, 96, 112, 96, 54, 4]
abbrev dktX1_fill_4 : List UInt8 := dkwX1_fill_4 ++ dktX1_fill_5
def dkwX1_fill_3 : List UInt8 := [21, 7, 42, 180, 0, 13, 162, 0, 47, 16, 37, 29, 104, 16, 11, 96, 17, 39, 23, 112, 62, 25, 6]
abbrev dktX1_fill_3 : List UInt8 := dkwX1_fill_3 ++ dktX1_fill_4
def dkwX1_fill_2 : List UInt8 := [185, 0, 108, 1, 0, 153, 0, 74, 25, 5, 185, 0, 114, 1, 0, 192, 0, 91, 58, 6, 3, 54, 7]
abbrev dktX1_fill_2 : List UInt8 := dkwX1_fill_2 ++ dktX1_fill_3
def dkwX1_fill_1 : List UInt8 := [4, 167, 0, 4, 3, 184, 0, 162, 27, 62, 3, 54, 4, 42, 180, 0, 20, 182, 0, 104, 58, 5, 25, 5]
abbrev dktX1_fill_1 : List UInt8 := dkwX1_fill_1 ++ dktX1_fill_2
def dkwX1_fill_0 : List UInt8 := [27, 133, 9, 20, 0, 196, 184, 0, 127, 153, 0, 19, 28, 133, 9, 20, 0, 179, 184, 0, 127, 153, 0, 7]
abbrev dktX1_fill_0 : List UInt8 := dkwX1_fill_0 ++ dktX1_fill_1
theorem dksX1_fill_0 : cX1_fill.data.toList.drop 0 = dktX1_fill_0 := by decide +kernel
theorem dksX1_fill_1 : cX1_fill.data.toList.drop 24 = dktX1_fill_1 := dk_seg dksX1_fill_0 24 rfl rfl
theorem dksX1_fill_2 : cX1_fill.data.toList.drop 48 = dktX1_fill_2 := dk_seg dksX1_fill_1 24 rfl rfl
theorem dksX1_fill_3 : cX1_fill.data.toList.drop 71 = dktX1_fill_3 := dk_seg dksX1_fill_2 23 rfl rfl
theorem dksX1_fill_4 : cX1_fill.data.toList.drop 94 = dktX1_fill_4 := dk_seg dksX1_fill_3 23 rfl rfl
theorem dksX1_fill_5 : cX1_fill.data.toList.drop 118 = dktX1_fill_5 := dk_seg dksX1_fill_4 24 rfl rfl
theorem dX1_fill_0 : decode cX1_fill 0 = .ok (.iload_n 1, 1) := dk_27 (dk_at dksX1_fill_0 0 rfl rfl)
theorem dX1_fill_1 : decode cX1_fill 1 = .ok (.i2l, 1) := dk_133 (dk_at dksX1_fill_0 1 rfl rfl)
theorem dX1_fill_2 : decode cX1_fill 2 = .ok (.lconst 0, 1) := dk_9 (dk_at dksX1_fill_0 2 rfl rfl)
theorem dX1_fill_3 : decode cX1_fill 3 = .ok (.ldc2_w 196, 3) := dk_20 0 196 (dk_at dksX1_fill_0 3 rfl rfl)
theorem dX1_fill_6 : decode cX1_fill 6 = .ok (.invokestatic 127, 3) := dk_184 0 127 (dk_at dksX1_fill_0 6 rfl rfl)
theorem dX1_fill_9 : decode cX1_fill 9 = .ok (.ifCond .eq 19, 3) := dk_153 0 19 (dk_at dksX1_fill_0 9 rfl rfl)
theorem dX1_fill_12 : decode cX1_fill 12 = .ok (.iload_n 2, 1) := dk_28 (dk_at dksX1_fill_0 12 rfl rfl)
theorem dX1_fill_13 : decode cX1_fill 13 = .ok (.i2l, 1) := dk_133 (dk_at dksX1_fill_0 13 rfl rfl)
theorem dX1_fill_14 : decode cX1_fill 14 = .ok (.lconst 0, 1) := dk_9 (dk_at dksX1_fill_0 14 rfl rfl)
theorem dX1_fill_15 : decode cX1_fill 15 = .ok (.ldc2_w 179, 3) := dk_20 0 179 (dk_at dksX1_fill_0 15 rfl rfl)
theorem dX1_fill_18 : decode cX1_fill 18 = .ok (.invokestatic 127, 3) := dk_184 0 127 (dk_at dksX1_fill_0 18 rfl rfl)
theorem dX1_fill_21 : decode cX1_fill 21 = .ok (.ifCond .eq 7, 3) := dk_153 0 7 (dk_at dksX1_fill_0 21 rfl rfl)
theorem dX1_fill_24 : decode cX1_fill 24 = .ok (.iconst 1, 1) := dk_4 (dk_at dksX1_fill_1 0 rfl rfl)
theorem dX1_fill_25 : decode cX1_fill 25 = .ok (.goto 4, 3) := dk_167 0 4 (dk_at dksX1_fill_1 1 rfl rfl)
theorem dX1_fill_28 : decode cX1_fill 28 = .ok (.iconst 0, 1) := dk_3 (dk_at dksX1_fill_1 4 rfl rfl)
theorem dX1_fill_29 : decode cX1_fill 29 = .ok (.invokestatic 162, 3) := dk_184 0 162 (dk_at dksX1_fill_1 5 rfl rfl)
theorem dX1_fill_32 : decode cX1_fill 32 = .ok (.iload_n 1, 1) := dk_27 (dk_at dksX1_fill_1 8 rfl rfl)
theorem dX1_fill_33 : decode cX1_fill 33 = .ok (.istore_n 3, 1) := dk_62 (dk_at dksX1_fill_1 9 rfl rfl)
theorem dX1_fill_34 : decode cX1_fill 34 = .ok (.iconst 0, 1) := dk_3 (dk_at dksX1_fill_1 10 rfl rfl)
theorem dX1_fill_35 : decode cX1_fill 35 = .ok (.istore 4, 2) := dk_54 4 (dk_at dksX1_fill_1 11 rfl rfl)
theorem dX1_fill_37 : decode cX1_fill 37 = .ok (.aload_n 0, 1) := dk_42 (dk_at dksX1_fill_1 13 rfl rfl)
theorem dX1_fill_38 : decode cX1_fill 38 = .ok (.getfield 20, 3) := dk_180 0 20 (dk_at dksX1_fill_1 14 rfl rfl)
theorem dX1_fill_41 : decode cX1_fill 41 = .ok (.invokevirtual 104, 3) := dk_182 0 104 (dk_at dksX1_fill_1 17 rfl rfl)
theorem dX1_fill_44 : decode cX1_fill 44 = .ok (.astore 5, 2) := dk_58 5 (dk_at dksX1_fill_1 20 rfl rfl)
theorem dX1_fill_46 : decode cX1_fill 46 = .ok (.aload 5, 2) := dk_25 5 (dk_at dksX1_fill_1 22 rfl rfl)
theorem dX1_fill_48 : decode cX1_fill 48 = .ok (.invokeinterface 108 1, 5) := by decide +kernel
theorem dX1_fill_53 : decode cX1_fill 53 = .ok (.ifCond .eq 74, 3) := dk_153 0 74 (dk_at dksX1_fill_2 5 rfl rfl)
theorem dX1_fill_56 : decode cX1_fill 56 = .ok (.aload 5, 2) := dk_25 5 (dk_at dksX1_fill_2 8 rfl rfl)
theorem dX1_fill_58 : decode cX1_fill 58 = .ok (.invokeinterface 114 1, 5) := by decide +kernel
theorem dX1_fill_63 : decode cX1_fill 63 = .ok (.checkcast 91, 3) := dk_192 0 91 (dk_at dksX1_fill_2 15 rfl rfl)
theorem dX1_fill_66 : decode cX1_fill 66 = .ok (.astore 6, 2) := dk_58 6 (dk_at dksX1_fill_2 18 rfl rfl)
theorem dX1_fill_68 : decode cX1_fill 68 = .ok (.iconst 0, 1) := dk_3 (dk_at dksX1_fill_2 20 rfl rfl)
theorem dX1_fill_69 : decode cX1_fill 69 = .ok (.istore 7, 2) := dk_54 7 (dk_at dksX1_fill_2 21 rfl rfl)
theorem dX1_fill_71 : decode cX1_fill 71 = .ok (.iload 7, 2) := dk_21 7 (dk_at dksX1_fill_3 0 rfl rfl)
theorem dX1_fill_73 : decode cX1_fill 73 = .ok (.aload_n 0, 1) := dk_42 (dk_at dksX1_fill_3 2 rfl rfl)
theorem dX1_fill_74 : decode cX1_fill 74 = .ok (.getfield 13, 3) := dk_180 0 13 (dk_at dksX1_fill_3 3 rfl rfl)
theorem dX1_fill_77 : decode cX1_fill 77 = .ok (.if_icmp .ge 47, 3) := dk_162 0 47 (dk_at dksX1_fill_3 6 rfl rfl)
theorem dX1_fill_80 : decode cX1_fill 80 = .ok (.bipush 37, 2) := dk_16 37 (dk_at dksX1_fill_3 9 rfl rfl)
theorem dX1_fill_82 : decode cX1_fill 82 = .ok (.iload_n 3, 1) := dk_29 (dk_at dksX1_fill_3 11 rfl rfl)
theorem dX1_fill_83 : decode cX1_fill 83 = .ok (.imul, 1) := dk_104 (dk_at dksX1_fill_3 12 rfl rfl)
theorem dX1_fill_84 : decode cX1_fill 84 = .ok (.bipush 11, 2) := dk_16 11 (dk_at dksX1_fill_3 13 rfl rfl)
theorem dX1_fill_86 : decode cX1_fill 86 = .ok (.iadd, 1) := dk_96 (dk_at dksX1_fill_3 15 rfl rfl)
theorem dX1_fill_87 : decode cX1_fill 87 = .ok (.sipush 10007, 3) := dk_17 39 23 (dk_at dksX1_fill_3 16 rfl rfl)
theorem dX1_fill_90 : decode cX1_fill 90 = .ok (.irem, 1) := dk_112 (dk_at dksX1_fill_3 19 rfl rfl)
theorem dX1_fill_91 : decode cX1_fill 91 = .ok (.istore_n 3, 1) := dk_62 (dk_at dksX1_fill_3 20 rfl rfl)
theorem dX1_fill_92 : decode cX1_fill 92 = .ok (.aload 6, 2) := dk_25 6 (dk_at dksX1_fill_3 21 rfl rfl)
theorem dX1_fill_94 : decode cX1_fill 94 = .ok (.iload 7, 2) := dk_21 7 (dk_at dksX1_fill_4 0 rfl rfl)
theorem dX1_fill_96 : decode cX1_fill 96 = .ok (.iload_n 3, 1) := dk_29 (dk_at dksX1_fill_4 2 rfl rfl)
theorem dX1_fill_97 : decode cX1_fill 97 = .ok (.iload_n 2, 1) := dk_28 (dk_at dksX1_fill_4 3 rfl rfl)
theorem dX1_fill_98 : decode cX1_fill 98 = .ok (.iconst 1, 1) := dk_4 (dk_at dksX1_fill_4 4 rfl rfl)
theorem dX1_fill_99 : decode cX1_fill 99 = .ok (.iadd, 1) := dk_96 (dk_at dksX1_fill_4 5 rfl rfl)
theorem dX1_fill_100 : decode cX1_fill 100 = .ok (.irem, 1) := dk_112 (dk_at dksX1_fill_4 6 rfl rfl)
theorem dX1_fill_101 : decode cX1_fill 101 = .ok (.invokestatic 94, 3) := dk_184 0 94 (dk_at dksX1_fill_4 7 rfl rfl)
theorem dX1_fill_104 : decode cX1_fill 104 = .ok (.invokevirtual 181, 3) := dk_182 0 181 (dk_at dksX1_fill_4 10 rfl rfl)
theorem dX1_fill_107 : decode cX1_fill 107 = .ok (.pop, 1) := dk_87 (dk_at dksX1_fill_4 13 rfl rfl)
theorem dX1_fill_108 : decode cX1_fill 108 = .ok (.iload 4, 2) := dk_21 4 (dk_at dksX1_fill_4 14 rfl rfl)
theorem dX1_fill_110 : decode cX1_fill 110 = .ok (.iload_n 3, 1) := dk_29 (dk_at dksX1_fill_4 16 rfl rfl)
theorem dX1_fill_111 : decode cX1_fill 111 = .ok (.iload_n 2, 1) := dk_28 (dk_at dksX1_fill_4 17 rfl rfl)
theorem dX1_fill_112 : decode cX1_fill 112 = .ok (.iconst 1, 1) := dk_4 (dk_at dksX1_fill_4 18 rfl rfl)
theorem dX1_fill_113 : decode cX1_fill 113 = .ok (.iadd, 1) := dk_96 (dk_at dksX1_fill_4 19 rfl rfl)
theorem dX1_fill_114 : decode cX1_fill 114 = .ok (.irem, 1) := dk_112 (dk_at dksX1_fill_4 20 rfl rfl)
theorem dX1_fill_115 : decode cX1_fill 115 = .ok (.iadd, 1) := dk_96 (dk_at dksX1_fill_4 21 rfl rfl)
theorem dX1_fill_116 : decode cX1_fill 116 = .ok (.istore 4, 2) := dk_54 4 (dk_at dksX1_fill_4 22 rfl rfl)
theorem dX1_fill_118 : decode cX1_fill 118 = .ok (.iinc 7 1, 3) := dk_132 7 1 (dk_at dksX1_fill_5 0 rfl rfl)
theorem dX1_fill_121 : decode cX1_fill 121 = .ok (.goto (-50), 3) := dk_167 255 206 (dk_at dksX1_fill_5 3 rfl rfl)
theorem dX1_fill_124 : decode cX1_fill 124 = .ok (.goto (-78), 3) := dk_167 255 178 (dk_at dksX1_fill_5 6 rfl rfl)
theorem dX1_fill_127 : decode cX1_fill 127 = .ok (.aload_n 0, 1) := dk_42 (dk_at dksX1_fill_5 9 rfl rfl)
theorem dX1_fill_128 : decode cX1_fill 128 = .ok (.invokevirtual 166, 3) := dk_182 0 166 (dk_at dksX1_fill_5 10 rfl rfl)
theorem dX1_fill_131 : decode cX1_fill 131 = .ok (.iload 4, 2) := dk_21 4 (dk_at dksX1_fill_5 13 rfl rfl)
theorem dX1_fill_133 : decode cX1_fill 133 = .ok (.ireturn, 1) := dk_172 (dk_at dksX1_fill_5 15 rfl rfl)
abbrev cX1_setForbidden : ByteArray := prog_1_method_20_code
def yX1_setForbidden : MethodName := ⟨RX1, "setForbidden", "(IIZ)I"⟩
def dkwX1_setForbidden_3 : List UInt8 := [182, 0, 201, 172]
abbrev dktX1_setForbidden_3 : List UInt8 := dkwX1_setForbidden_3 ++ []
def dkwX1_setForbidden_2 : List UInt8 := [153, 0, 10, 2, 21, 4, 100, 167, 0, 5, 21, 4, 184, 0, 94, 182, 0, 181, 87, 42, 182, 0, 166, 42]
abbrev dktX1_setForbidden_2 : List UInt8 := dkwX1_setForbidden_2 ++ dktX1_setForbidden_3
def dkwX1_setForbidden_1 : List UInt8 := [42, 27, 28, 182, 0, 198, 184, 0, 185, 54, 4, 42, 180, 0, 20, 27, 182, 0, 131, 192, 0, 91, 28, 29]
abbrev dktX1_setForbidden_1 : List UInt8 := dkwX1_setForbidden_1 ++ dktX1_setForbidden_2
def dkwX1_setForbidden_0 : List UInt8 := [42, 27, 182, 0, 169, 153, 0, 15, 42, 28, 182, 0, 173, 153, 0, 7, 4, 167, 0, 4, 3, 184, 0, 176]
abbrev dktX1_setForbidden_0 : List UInt8 := dkwX1_setForbidden_0 ++ dktX1_setForbidden_1
theorem dksX1_setForbidden_0 : cX1_setForbidden.data.toList.drop 0 = dktX1_setForbidden_0 := by decide +kernel
theorem dksX1_setForbidden_1 : cX1_setForbidden.data.toList.drop 24 = dktX1_setForbidden_1 := dk_seg dksX1_setForbidden_0 24 rfl rfl
theorem dksX1_setForbidden_2 : cX1_setForbidden.data.toList.drop 48 = dktX1_setForbidden_2 := dk_seg dksX1_setForbidden_1 24 rfl rfl
theorem dksX1_setForbidden_3 : cX1_setForbidden.data.toList.drop 72 = dktX1_setForbidden_3 := dk_seg dksX1_setForbidden_2 24 rfl rfl
theorem dX1_setForbidden_0 : decode cX1_setForbidden 0 = .ok (.aload_n 0, 1) := dk_42 (dk_at dksX1_setForbidden_0 0 rfl rfl)
theorem dX1_setForbidden_1 : decode cX1_setForbidden 1 = .ok (.iload_n 1, 1) := dk_27 (dk_at dksX1_setForbidden_0 1 rfl rfl)
theorem dX1_setForbidden_2 : decode cX1_setForbidden 2 = .ok (.invokevirtual 169, 3) := dk_182 0 169 (dk_at dksX1_setForbidden_0 2 rfl rfl)
theorem dX1_setForbidden_5 : decode cX1_setForbidden 5 = .ok (.ifCond .eq 15, 3) := dk_153 0 15 (dk_at dksX1_setForbidden_0 5 rfl rfl)
theorem dX1_setForbidden_8 : decode cX1_setForbidden 8 = .ok (.aload_n 0, 1) := dk_42 (dk_at dksX1_setForbidden_0 8 rfl rfl)
theorem dX1_setForbidden_9 : decode cX1_setForbidden 9 = .ok (.iload_n 2, 1) := dk_28 (dk_at dksX1_setForbidden_0 9 rfl rfl)
theorem dX1_setForbidden_10 : decode cX1_setForbidden 10 = .ok (.invokevirtual 173, 3) := dk_182 0 173 (dk_at dksX1_setForbidden_0 10 rfl rfl)
theorem dX1_setForbidden_13 : decode cX1_setForbidden 13 = .ok (.ifCond .eq 7, 3) := dk_153 0 7 (dk_at dksX1_setForbidden_0 13 rfl rfl)
theorem dX1_setForbidden_16 : decode cX1_setForbidden 16 = .ok (.iconst 1, 1) := dk_4 (dk_at dksX1_setForbidden_0 16 rfl rfl)
theorem dX1_setForbidden_17 : decode cX1_setForbidden 17 = .ok (.goto 4, 3) := dk_167 0 4 (dk_at dksX1_setForbidden_0 17 rfl rfl)
theorem dX1_setForbidden_20 : decode cX1_setForbidden 20 = .ok (.iconst 0, 1) := dk_3 (dk_at dksX1_setForbidden_0 20 rfl rfl)
theorem dX1_setForbidden_21 : decode cX1_setForbidden 21 = .ok (.invokestatic 176, 3) := dk_184 0 176 (dk_at dksX1_setForbidden_0 21 rfl rfl)
theorem dX1_setForbidden_24 : decode cX1_setForbidden 24 = .ok (.aload_n 0, 1) := dk_42 (dk_at dksX1_setForbidden_1 0 rfl rfl)
theorem dX1_setForbidden_25 : decode cX1_setForbidden 25 = .ok (.iload_n 1, 1) := dk_27 (dk_at dksX1_setForbidden_1 1 rfl rfl)
theorem dX1_setForbidden_26 : decode cX1_setForbidden 26 = .ok (.iload_n 2, 1) := dk_28 (dk_at dksX1_setForbidden_1 2 rfl rfl)
theorem dX1_setForbidden_27 : decode cX1_setForbidden 27 = .ok (.invokevirtual 198, 3) := dk_182 0 198 (dk_at dksX1_setForbidden_1 3 rfl rfl)
theorem dX1_setForbidden_30 : decode cX1_setForbidden 30 = .ok (.invokestatic 185, 3) := dk_184 0 185 (dk_at dksX1_setForbidden_1 6 rfl rfl)
theorem dX1_setForbidden_33 : decode cX1_setForbidden 33 = .ok (.istore 4, 2) := dk_54 4 (dk_at dksX1_setForbidden_1 9 rfl rfl)
theorem dX1_setForbidden_35 : decode cX1_setForbidden 35 = .ok (.aload_n 0, 1) := dk_42 (dk_at dksX1_setForbidden_1 11 rfl rfl)
theorem dX1_setForbidden_36 : decode cX1_setForbidden 36 = .ok (.getfield 20, 3) := dk_180 0 20 (dk_at dksX1_setForbidden_1 12 rfl rfl)
theorem dX1_setForbidden_39 : decode cX1_setForbidden 39 = .ok (.iload_n 1, 1) := dk_27 (dk_at dksX1_setForbidden_1 15 rfl rfl)
theorem dX1_setForbidden_40 : decode cX1_setForbidden 40 = .ok (.invokevirtual 131, 3) := dk_182 0 131 (dk_at dksX1_setForbidden_1 16 rfl rfl)
theorem dX1_setForbidden_43 : decode cX1_setForbidden 43 = .ok (.checkcast 91, 3) := dk_192 0 91 (dk_at dksX1_setForbidden_1 19 rfl rfl)
theorem dX1_setForbidden_46 : decode cX1_setForbidden 46 = .ok (.iload_n 2, 1) := dk_28 (dk_at dksX1_setForbidden_1 22 rfl rfl)
theorem dX1_setForbidden_47 : decode cX1_setForbidden 47 = .ok (.iload_n 3, 1) := dk_29 (dk_at dksX1_setForbidden_1 23 rfl rfl)
theorem dX1_setForbidden_48 : decode cX1_setForbidden 48 = .ok (.ifCond .eq 10, 3) := dk_153 0 10 (dk_at dksX1_setForbidden_2 0 rfl rfl)
theorem dX1_setForbidden_51 : decode cX1_setForbidden 51 = .ok (.iconst (-1), 1) := dk_2 (dk_at dksX1_setForbidden_2 3 rfl rfl)
theorem dX1_setForbidden_52 : decode cX1_setForbidden 52 = .ok (.iload 4, 2) := dk_21 4 (dk_at dksX1_setForbidden_2 4 rfl rfl)
theorem dX1_setForbidden_54 : decode cX1_setForbidden 54 = .ok (.isub, 1) := dk_100 (dk_at dksX1_setForbidden_2 6 rfl rfl)
theorem dX1_setForbidden_55 : decode cX1_setForbidden 55 = .ok (.goto 5, 3) := dk_167 0 5 (dk_at dksX1_setForbidden_2 7 rfl rfl)
theorem dX1_setForbidden_58 : decode cX1_setForbidden 58 = .ok (.iload 4, 2) := dk_21 4 (dk_at dksX1_setForbidden_2 10 rfl rfl)
theorem dX1_setForbidden_60 : decode cX1_setForbidden 60 = .ok (.invokestatic 94, 3) := dk_184 0 94 (dk_at dksX1_setForbidden_2 12 rfl rfl)
theorem dX1_setForbidden_63 : decode cX1_setForbidden 63 = .ok (.invokevirtual 181, 3) := dk_182 0 181 (dk_at dksX1_setForbidden_2 15 rfl rfl)
theorem dX1_setForbidden_66 : decode cX1_setForbidden 66 = .ok (.pop, 1) := dk_87 (dk_at dksX1_setForbidden_2 18 rfl rfl)
theorem dX1_setForbidden_67 : decode cX1_setForbidden 67 = .ok (.aload_n 0, 1) := dk_42 (dk_at dksX1_setForbidden_2 19 rfl rfl)
theorem dX1_setForbidden_68 : decode cX1_setForbidden 68 = .ok (.invokevirtual 166, 3) := dk_182 0 166 (dk_at dksX1_setForbidden_2 20 rfl rfl)
theorem dX1_setForbidden_71 : decode cX1_setForbidden 71 = .ok (.aload_n 0, 1) := dk_42 (dk_at dksX1_setForbidden_2 23 rfl rfl)
theorem dX1_setForbidden_72 : decode cX1_setForbidden 72 = .ok (.invokevirtual 201, 3) := dk_182 0 201 (dk_at dksX1_setForbidden_3 0 rfl rfl)
theorem dX1_setForbidden_75 : decode cX1_setForbidden 75 = .ok (.ireturn, 1) := dk_172 (dk_at dksX1_setForbidden_3 3 rfl rfl)
abbrev cX1_held : ByteArray := prog_1_method_12_code
def yX1_held : MethodName := ⟨RX1, "held", "(II)I"⟩
def dkwX1_held_0 : List UInt8 := [42, 180, 0, 20, 27, 182, 0, 131, 192, 0, 91, 28, 182, 0, 131, 192, 0, 95, 182, 0, 135, 172]
abbrev dktX1_held_0 : List UInt8 := dkwX1_held_0 ++ []
theorem dksX1_held_0 : cX1_held.data.toList.drop 0 = dktX1_held_0 := by decide +kernel
theorem dX1_held_0 : decode cX1_held 0 = .ok (.aload_n 0, 1) := dk_42 (dk_at dksX1_held_0 0 rfl rfl)
theorem dX1_held_1 : decode cX1_held 1 = .ok (.getfield 20, 3) := dk_180 0 20 (dk_at dksX1_held_0 1 rfl rfl)
theorem dX1_held_4 : decode cX1_held 4 = .ok (.iload_n 1, 1) := dk_27 (dk_at dksX1_held_0 4 rfl rfl)
theorem dX1_held_5 : decode cX1_held 5 = .ok (.invokevirtual 131, 3) := dk_182 0 131 (dk_at dksX1_held_0 5 rfl rfl)
theorem dX1_held_8 : decode cX1_held 8 = .ok (.checkcast 91, 3) := dk_192 0 91 (dk_at dksX1_held_0 8 rfl rfl)
theorem dX1_held_11 : decode cX1_held 11 = .ok (.iload_n 2, 1) := dk_28 (dk_at dksX1_held_0 11 rfl rfl)
theorem dX1_held_12 : decode cX1_held 12 = .ok (.invokevirtual 131, 3) := dk_182 0 131 (dk_at dksX1_held_0 12 rfl rfl)
theorem dX1_held_15 : decode cX1_held 15 = .ok (.checkcast 95, 3) := dk_192 0 95 (dk_at dksX1_held_0 15 rfl rfl)
theorem dX1_held_18 : decode cX1_held 18 = .ok (.invokevirtual 135, 3) := dk_182 0 135 (dk_at dksX1_held_0 18 rfl rfl)
theorem dX1_held_21 : decode cX1_held 21 = .ok (.ireturn, 1) := dk_172 (dk_at dksX1_held_0 21 rfl rfl)
abbrev cX1_costAt : ByteArray := prog_1_method_21_code
def yX1_costAt : MethodName := ⟨RX1, "costAt", "(II)I"⟩
def dkwX1_costAt_1 : List UInt8 := [42, 27, 28, 182, 0, 204, 172]
abbrev dktX1_costAt_1 : List UInt8 := dkwX1_costAt_1 ++ []
def dkwX1_costAt_0 : List UInt8 := [42, 27, 182, 0, 169, 153, 0, 15, 42, 28, 182, 0, 169, 153, 0, 7, 4, 167, 0, 4, 3, 184, 0, 176]
abbrev dktX1_costAt_0 : List UInt8 := dkwX1_costAt_0 ++ dktX1_costAt_1
theorem dksX1_costAt_0 : cX1_costAt.data.toList.drop 0 = dktX1_costAt_0 := by decide +kernel
theorem dksX1_costAt_1 : cX1_costAt.data.toList.drop 24 = dktX1_costAt_1 := dk_seg dksX1_costAt_0 24 rfl rfl
theorem dX1_costAt_0 : decode cX1_costAt 0 = .ok (.aload_n 0, 1) := dk_42 (dk_at dksX1_costAt_0 0 rfl rfl)
theorem dX1_costAt_1 : decode cX1_costAt 1 = .ok (.iload_n 1, 1) := dk_27 (dk_at dksX1_costAt_0 1 rfl rfl)
theorem dX1_costAt_2 : decode cX1_costAt 2 = .ok (.invokevirtual 169, 3) := dk_182 0 169 (dk_at dksX1_costAt_0 2 rfl rfl)
theorem dX1_costAt_5 : decode cX1_costAt 5 = .ok (.ifCond .eq 15, 3) := dk_153 0 15 (dk_at dksX1_costAt_0 5 rfl rfl)
theorem dX1_costAt_8 : decode cX1_costAt 8 = .ok (.aload_n 0, 1) := dk_42 (dk_at dksX1_costAt_0 8 rfl rfl)
theorem dX1_costAt_9 : decode cX1_costAt 9 = .ok (.iload_n 2, 1) := dk_28 (dk_at dksX1_costAt_0 9 rfl rfl)
theorem dX1_costAt_10 : decode cX1_costAt 10 = .ok (.invokevirtual 169, 3) := dk_182 0 169 (dk_at dksX1_costAt_0 10 rfl rfl)
theorem dX1_costAt_13 : decode cX1_costAt 13 = .ok (.ifCond .eq 7, 3) := dk_153 0 7 (dk_at dksX1_costAt_0 13 rfl rfl)
theorem dX1_costAt_16 : decode cX1_costAt 16 = .ok (.iconst 1, 1) := dk_4 (dk_at dksX1_costAt_0 16 rfl rfl)
theorem dX1_costAt_17 : decode cX1_costAt 17 = .ok (.goto 4, 3) := dk_167 0 4 (dk_at dksX1_costAt_0 17 rfl rfl)
theorem dX1_costAt_20 : decode cX1_costAt 20 = .ok (.iconst 0, 1) := dk_3 (dk_at dksX1_costAt_0 20 rfl rfl)
theorem dX1_costAt_21 : decode cX1_costAt 21 = .ok (.invokestatic 176, 3) := dk_184 0 176 (dk_at dksX1_costAt_0 21 rfl rfl)
theorem dX1_costAt_24 : decode cX1_costAt 24 = .ok (.aload_n 0, 1) := dk_42 (dk_at dksX1_costAt_1 0 rfl rfl)
theorem dX1_costAt_25 : decode cX1_costAt 25 = .ok (.iload_n 1, 1) := dk_27 (dk_at dksX1_costAt_1 1 rfl rfl)
theorem dX1_costAt_26 : decode cX1_costAt 26 = .ok (.iload_n 2, 1) := dk_28 (dk_at dksX1_costAt_1 2 rfl rfl)
theorem dX1_costAt_27 : decode cX1_costAt 27 = .ok (.invokevirtual 204, 3) := dk_182 0 204 (dk_at dksX1_costAt_1 3 rfl rfl)
theorem dX1_costAt_30 : decode cX1_costAt 30 = .ok (.ireturn, 1) := dk_172 (dk_at dksX1_costAt_1 6 rfl rfl)
abbrev cX1_addToRow : ByteArray := prog_1_method_24_code
def yX1_addToRow : MethodName := ⟨RX1, "addToRow", "(II)I"⟩
def dkwX1_addToRow_8 : List UInt8 := [182, 0, 212, 172]
abbrev dktX1_addToRow_8 : List UInt8 := dkwX1_addToRow_8 ++ []
def dkwX1_addToRow_7 : List UInt8 := [182, 0, 135, 28, 96, 184, 0, 94, 182, 0, 181, 87, 132, 5, 1, 167, 255, 218, 42, 182, 0, 166, 42, 27]
abbrev dktX1_addToRow_7 : List UInt8 := dkwX1_addToRow_7 ++ dktX1_addToRow_8
def dkwX1_addToRow_6 : List UInt8 := [21, 5, 42, 180, 0, 13, 162, 0, 35, 25, 4, 21, 5, 25, 4, 21, 5, 182, 0, 131, 192, 0, 95]
abbrev dktX1_addToRow_6 : List UInt8 := dkwX1_addToRow_6 ++ dktX1_addToRow_7
def dkwX1_addToRow_5 : List UInt8 := [167, 255, 198, 29, 184, 0, 209, 42, 180, 0, 20, 27, 182, 0, 131, 192, 0, 91, 58, 4, 3, 54, 5]
abbrev dktX1_addToRow_5 : List UInt8 := dkwX1_addToRow_5 ++ dktX1_addToRow_6
def dkwX1_addToRow_4 : List UInt8 := [182, 0, 135, 28, 96, 133, 9, 20, 0, 179, 184, 0, 127, 153, 0, 7, 4, 167, 0, 4, 3, 62]
abbrev dktX1_addToRow_4 : List UInt8 := dkwX1_addToRow_4 ++ dktX1_addToRow_5
def dkwX1_addToRow_3 : List UInt8 := [185, 0, 114, 1, 0, 192, 0, 95, 58, 5, 29, 153, 0, 33, 25, 5, 182, 0, 135, 155, 0, 25, 25, 5]
abbrev dktX1_addToRow_3 : List UInt8 := dkwX1_addToRow_3 ++ dktX1_addToRow_4
def dkwX1_addToRow_2 : List UInt8 := [192, 0, 91, 182, 0, 104, 58, 4, 25, 4, 185, 0, 108, 1, 0, 153, 0, 54, 25, 4]
abbrev dktX1_addToRow_2 : List UInt8 := dkwX1_addToRow_2 ++ dktX1_addToRow_3
def dkwX1_addToRow_1 : List UInt8 := [180, 0, 13, 42, 180, 0, 7, 160, 0, 7, 4, 167, 0, 4, 3, 62, 42, 180, 0, 20, 27, 182, 0, 131]
abbrev dktX1_addToRow_1 : List UInt8 := dkwX1_addToRow_1 ++ dktX1_addToRow_2
def dkwX1_addToRow_0 : List UInt8 := [42, 27, 182, 0, 169, 184, 0, 176, 28, 133, 20, 0, 207, 20, 0, 179, 184, 0, 127, 184, 0, 162, 42]
abbrev dktX1_addToRow_0 : List UInt8 := dkwX1_addToRow_0 ++ dktX1_addToRow_1
theorem dksX1_addToRow_0 : cX1_addToRow.data.toList.drop 0 = dktX1_addToRow_0 := by decide +kernel
theorem dksX1_addToRow_1 : cX1_addToRow.data.toList.drop 23 = dktX1_addToRow_1 := dk_seg dksX1_addToRow_0 23 rfl rfl
theorem dksX1_addToRow_2 : cX1_addToRow.data.toList.drop 47 = dktX1_addToRow_2 := dk_seg dksX1_addToRow_1 24 rfl rfl
theorem dksX1_addToRow_3 : cX1_addToRow.data.toList.drop 67 = dktX1_addToRow_3 := dk_seg dksX1_addToRow_2 20 rfl rfl
theorem dksX1_addToRow_4 : cX1_addToRow.data.toList.drop 91 = dktX1_addToRow_4 := dk_seg dksX1_addToRow_3 24 rfl rfl
theorem dksX1_addToRow_5 : cX1_addToRow.data.toList.drop 113 = dktX1_addToRow_5 := dk_seg dksX1_addToRow_4 22 rfl rfl
theorem dksX1_addToRow_6 : cX1_addToRow.data.toList.drop 136 = dktX1_addToRow_6 := dk_seg dksX1_addToRow_5 23 rfl rfl
theorem dksX1_addToRow_7 : cX1_addToRow.data.toList.drop 159 = dktX1_addToRow_7 := dk_seg dksX1_addToRow_6 23 rfl rfl
theorem dksX1_addToRow_8 : cX1_addToRow.data.toList.drop 183 = dktX1_addToRow_8 := dk_seg dksX1_addToRow_7 24 rfl rfl
theorem dX1_addToRow_0 : decode cX1_addToRow 0 = .ok (.aload_n 0, 1) := dk_42 (dk_at dksX1_addToRow_0 0 rfl rfl)
theorem dX1_addToRow_1 : decode cX1_addToRow 1 = .ok (.iload_n 1, 1) := dk_27 (dk_at dksX1_addToRow_0 1 rfl rfl)
theorem dX1_addToRow_2 : decode cX1_addToRow 2 = .ok (.invokevirtual 169, 3) := dk_182 0 169 (dk_at dksX1_addToRow_0 2 rfl rfl)
theorem dX1_addToRow_5 : decode cX1_addToRow 5 = .ok (.invokestatic 176, 3) := dk_184 0 176 (dk_at dksX1_addToRow_0 5 rfl rfl)
theorem dX1_addToRow_8 : decode cX1_addToRow 8 = .ok (.iload_n 2, 1) := dk_28 (dk_at dksX1_addToRow_0 8 rfl rfl)
theorem dX1_addToRow_9 : decode cX1_addToRow 9 = .ok (.i2l, 1) := dk_133 (dk_at dksX1_addToRow_0 9 rfl rfl)
theorem dX1_addToRow_10 : decode cX1_addToRow 10 = .ok (.ldc2_w 207, 3) := dk_20 0 207 (dk_at dksX1_addToRow_0 10 rfl rfl)
theorem dX1_addToRow_13 : decode cX1_addToRow 13 = .ok (.ldc2_w 179, 3) := dk_20 0 179 (dk_at dksX1_addToRow_0 13 rfl rfl)
theorem dX1_addToRow_16 : decode cX1_addToRow 16 = .ok (.invokestatic 127, 3) := dk_184 0 127 (dk_at dksX1_addToRow_0 16 rfl rfl)
theorem dX1_addToRow_19 : decode cX1_addToRow 19 = .ok (.invokestatic 162, 3) := dk_184 0 162 (dk_at dksX1_addToRow_0 19 rfl rfl)
theorem dX1_addToRow_22 : decode cX1_addToRow 22 = .ok (.aload_n 0, 1) := dk_42 (dk_at dksX1_addToRow_0 22 rfl rfl)
theorem dX1_addToRow_23 : decode cX1_addToRow 23 = .ok (.getfield 13, 3) := dk_180 0 13 (dk_at dksX1_addToRow_1 0 rfl rfl)
theorem dX1_addToRow_26 : decode cX1_addToRow 26 = .ok (.aload_n 0, 1) := dk_42 (dk_at dksX1_addToRow_1 3 rfl rfl)
theorem dX1_addToRow_27 : decode cX1_addToRow 27 = .ok (.getfield 7, 3) := dk_180 0 7 (dk_at dksX1_addToRow_1 4 rfl rfl)
theorem dX1_addToRow_30 : decode cX1_addToRow 30 = .ok (.if_icmp .ne 7, 3) := dk_160 0 7 (dk_at dksX1_addToRow_1 7 rfl rfl)
theorem dX1_addToRow_33 : decode cX1_addToRow 33 = .ok (.iconst 1, 1) := dk_4 (dk_at dksX1_addToRow_1 10 rfl rfl)
theorem dX1_addToRow_34 : decode cX1_addToRow 34 = .ok (.goto 4, 3) := dk_167 0 4 (dk_at dksX1_addToRow_1 11 rfl rfl)
theorem dX1_addToRow_37 : decode cX1_addToRow 37 = .ok (.iconst 0, 1) := dk_3 (dk_at dksX1_addToRow_1 14 rfl rfl)
theorem dX1_addToRow_38 : decode cX1_addToRow 38 = .ok (.istore_n 3, 1) := dk_62 (dk_at dksX1_addToRow_1 15 rfl rfl)
theorem dX1_addToRow_39 : decode cX1_addToRow 39 = .ok (.aload_n 0, 1) := dk_42 (dk_at dksX1_addToRow_1 16 rfl rfl)
theorem dX1_addToRow_40 : decode cX1_addToRow 40 = .ok (.getfield 20, 3) := dk_180 0 20 (dk_at dksX1_addToRow_1 17 rfl rfl)
theorem dX1_addToRow_43 : decode cX1_addToRow 43 = .ok (.iload_n 1, 1) := dk_27 (dk_at dksX1_addToRow_1 20 rfl rfl)
theorem dX1_addToRow_44 : decode cX1_addToRow 44 = .ok (.invokevirtual 131, 3) := dk_182 0 131 (dk_at dksX1_addToRow_1 21 rfl rfl)
theorem dX1_addToRow_47 : decode cX1_addToRow 47 = .ok (.checkcast 91, 3) := dk_192 0 91 (dk_at dksX1_addToRow_2 0 rfl rfl)
theorem dX1_addToRow_50 : decode cX1_addToRow 50 = .ok (.invokevirtual 104, 3) := dk_182 0 104 (dk_at dksX1_addToRow_2 3 rfl rfl)
theorem dX1_addToRow_53 : decode cX1_addToRow 53 = .ok (.astore 4, 2) := dk_58 4 (dk_at dksX1_addToRow_2 6 rfl rfl)
theorem dX1_addToRow_55 : decode cX1_addToRow 55 = .ok (.aload 4, 2) := dk_25 4 (dk_at dksX1_addToRow_2 8 rfl rfl)
theorem dX1_addToRow_57 : decode cX1_addToRow 57 = .ok (.invokeinterface 108 1, 5) := by decide +kernel
theorem dX1_addToRow_62 : decode cX1_addToRow 62 = .ok (.ifCond .eq 54, 3) := dk_153 0 54 (dk_at dksX1_addToRow_2 15 rfl rfl)
theorem dX1_addToRow_65 : decode cX1_addToRow 65 = .ok (.aload 4, 2) := dk_25 4 (dk_at dksX1_addToRow_2 18 rfl rfl)
theorem dX1_addToRow_67 : decode cX1_addToRow 67 = .ok (.invokeinterface 114 1, 5) := by decide +kernel
theorem dX1_addToRow_72 : decode cX1_addToRow 72 = .ok (.checkcast 95, 3) := dk_192 0 95 (dk_at dksX1_addToRow_3 5 rfl rfl)
theorem dX1_addToRow_75 : decode cX1_addToRow 75 = .ok (.astore 5, 2) := dk_58 5 (dk_at dksX1_addToRow_3 8 rfl rfl)
theorem dX1_addToRow_77 : decode cX1_addToRow 77 = .ok (.iload_n 3, 1) := dk_29 (dk_at dksX1_addToRow_3 10 rfl rfl)
theorem dX1_addToRow_78 : decode cX1_addToRow 78 = .ok (.ifCond .eq 33, 3) := dk_153 0 33 (dk_at dksX1_addToRow_3 11 rfl rfl)
theorem dX1_addToRow_81 : decode cX1_addToRow 81 = .ok (.aload 5, 2) := dk_25 5 (dk_at dksX1_addToRow_3 14 rfl rfl)
theorem dX1_addToRow_83 : decode cX1_addToRow 83 = .ok (.invokevirtual 135, 3) := dk_182 0 135 (dk_at dksX1_addToRow_3 16 rfl rfl)
theorem dX1_addToRow_86 : decode cX1_addToRow 86 = .ok (.ifCond .lt 25, 3) := dk_155 0 25 (dk_at dksX1_addToRow_3 19 rfl rfl)
theorem dX1_addToRow_89 : decode cX1_addToRow 89 = .ok (.aload 5, 2) := dk_25 5 (dk_at dksX1_addToRow_3 22 rfl rfl)
theorem dX1_addToRow_91 : decode cX1_addToRow 91 = .ok (.invokevirtual 135, 3) := dk_182 0 135 (dk_at dksX1_addToRow_4 0 rfl rfl)
theorem dX1_addToRow_94 : decode cX1_addToRow 94 = .ok (.iload_n 2, 1) := dk_28 (dk_at dksX1_addToRow_4 3 rfl rfl)
theorem dX1_addToRow_95 : decode cX1_addToRow 95 = .ok (.iadd, 1) := dk_96 (dk_at dksX1_addToRow_4 4 rfl rfl)
theorem dX1_addToRow_96 : decode cX1_addToRow 96 = .ok (.i2l, 1) := dk_133 (dk_at dksX1_addToRow_4 5 rfl rfl)
theorem dX1_addToRow_97 : decode cX1_addToRow 97 = .ok (.lconst 0, 1) := dk_9 (dk_at dksX1_addToRow_4 6 rfl rfl)
theorem dX1_addToRow_98 : decode cX1_addToRow 98 = .ok (.ldc2_w 179, 3) := dk_20 0 179 (dk_at dksX1_addToRow_4 7 rfl rfl)
theorem dX1_addToRow_101 : decode cX1_addToRow 101 = .ok (.invokestatic 127, 3) := dk_184 0 127 (dk_at dksX1_addToRow_4 10 rfl rfl)
theorem dX1_addToRow_104 : decode cX1_addToRow 104 = .ok (.ifCond .eq 7, 3) := dk_153 0 7 (dk_at dksX1_addToRow_4 13 rfl rfl)
theorem dX1_addToRow_107 : decode cX1_addToRow 107 = .ok (.iconst 1, 1) := dk_4 (dk_at dksX1_addToRow_4 16 rfl rfl)
theorem dX1_addToRow_108 : decode cX1_addToRow 108 = .ok (.goto 4, 3) := dk_167 0 4 (dk_at dksX1_addToRow_4 17 rfl rfl)
theorem dX1_addToRow_111 : decode cX1_addToRow 111 = .ok (.iconst 0, 1) := dk_3 (dk_at dksX1_addToRow_4 20 rfl rfl)
theorem dX1_addToRow_112 : decode cX1_addToRow 112 = .ok (.istore_n 3, 1) := dk_62 (dk_at dksX1_addToRow_4 21 rfl rfl)
theorem dX1_addToRow_113 : decode cX1_addToRow 113 = .ok (.goto (-58), 3) := dk_167 255 198 (dk_at dksX1_addToRow_5 0 rfl rfl)
theorem dX1_addToRow_116 : decode cX1_addToRow 116 = .ok (.iload_n 3, 1) := dk_29 (dk_at dksX1_addToRow_5 3 rfl rfl)
theorem dX1_addToRow_117 : decode cX1_addToRow 117 = .ok (.invokestatic 209, 3) := dk_184 0 209 (dk_at dksX1_addToRow_5 4 rfl rfl)
theorem dX1_addToRow_120 : decode cX1_addToRow 120 = .ok (.aload_n 0, 1) := dk_42 (dk_at dksX1_addToRow_5 7 rfl rfl)
theorem dX1_addToRow_121 : decode cX1_addToRow 121 = .ok (.getfield 20, 3) := dk_180 0 20 (dk_at dksX1_addToRow_5 8 rfl rfl)
theorem dX1_addToRow_124 : decode cX1_addToRow 124 = .ok (.iload_n 1, 1) := dk_27 (dk_at dksX1_addToRow_5 11 rfl rfl)
theorem dX1_addToRow_125 : decode cX1_addToRow 125 = .ok (.invokevirtual 131, 3) := dk_182 0 131 (dk_at dksX1_addToRow_5 12 rfl rfl)
theorem dX1_addToRow_128 : decode cX1_addToRow 128 = .ok (.checkcast 91, 3) := dk_192 0 91 (dk_at dksX1_addToRow_5 15 rfl rfl)
theorem dX1_addToRow_131 : decode cX1_addToRow 131 = .ok (.astore 4, 2) := dk_58 4 (dk_at dksX1_addToRow_5 18 rfl rfl)
theorem dX1_addToRow_133 : decode cX1_addToRow 133 = .ok (.iconst 0, 1) := dk_3 (dk_at dksX1_addToRow_5 20 rfl rfl)
theorem dX1_addToRow_134 : decode cX1_addToRow 134 = .ok (.istore 5, 2) := dk_54 5 (dk_at dksX1_addToRow_5 21 rfl rfl)
theorem dX1_addToRow_136 : decode cX1_addToRow 136 = .ok (.iload 5, 2) := dk_21 5 (dk_at dksX1_addToRow_6 0 rfl rfl)
theorem dX1_addToRow_138 : decode cX1_addToRow 138 = .ok (.aload_n 0, 1) := dk_42 (dk_at dksX1_addToRow_6 2 rfl rfl)
theorem dX1_addToRow_139 : decode cX1_addToRow 139 = .ok (.getfield 13, 3) := dk_180 0 13 (dk_at dksX1_addToRow_6 3 rfl rfl)
theorem dX1_addToRow_142 : decode cX1_addToRow 142 = .ok (.if_icmp .ge 35, 3) := dk_162 0 35 (dk_at dksX1_addToRow_6 6 rfl rfl)
theorem dX1_addToRow_145 : decode cX1_addToRow 145 = .ok (.aload 4, 2) := dk_25 4 (dk_at dksX1_addToRow_6 9 rfl rfl)
theorem dX1_addToRow_147 : decode cX1_addToRow 147 = .ok (.iload 5, 2) := dk_21 5 (dk_at dksX1_addToRow_6 11 rfl rfl)
theorem dX1_addToRow_149 : decode cX1_addToRow 149 = .ok (.aload 4, 2) := dk_25 4 (dk_at dksX1_addToRow_6 13 rfl rfl)
theorem dX1_addToRow_151 : decode cX1_addToRow 151 = .ok (.iload 5, 2) := dk_21 5 (dk_at dksX1_addToRow_6 15 rfl rfl)
theorem dX1_addToRow_153 : decode cX1_addToRow 153 = .ok (.invokevirtual 131, 3) := dk_182 0 131 (dk_at dksX1_addToRow_6 17 rfl rfl)
theorem dX1_addToRow_156 : decode cX1_addToRow 156 = .ok (.checkcast 95, 3) := dk_192 0 95 (dk_at dksX1_addToRow_6 20 rfl rfl)
theorem dX1_addToRow_159 : decode cX1_addToRow 159 = .ok (.invokevirtual 135, 3) := dk_182 0 135 (dk_at dksX1_addToRow_7 0 rfl rfl)
theorem dX1_addToRow_162 : decode cX1_addToRow 162 = .ok (.iload_n 2, 1) := dk_28 (dk_at dksX1_addToRow_7 3 rfl rfl)
theorem dX1_addToRow_163 : decode cX1_addToRow 163 = .ok (.iadd, 1) := dk_96 (dk_at dksX1_addToRow_7 4 rfl rfl)
theorem dX1_addToRow_164 : decode cX1_addToRow 164 = .ok (.invokestatic 94, 3) := dk_184 0 94 (dk_at dksX1_addToRow_7 5 rfl rfl)
theorem dX1_addToRow_167 : decode cX1_addToRow 167 = .ok (.invokevirtual 181, 3) := dk_182 0 181 (dk_at dksX1_addToRow_7 8 rfl rfl)
theorem dX1_addToRow_170 : decode cX1_addToRow 170 = .ok (.pop, 1) := dk_87 (dk_at dksX1_addToRow_7 11 rfl rfl)
theorem dX1_addToRow_171 : decode cX1_addToRow 171 = .ok (.iinc 5 1, 3) := dk_132 5 1 (dk_at dksX1_addToRow_7 12 rfl rfl)
theorem dX1_addToRow_174 : decode cX1_addToRow 174 = .ok (.goto (-38), 3) := dk_167 255 218 (dk_at dksX1_addToRow_7 15 rfl rfl)
theorem dX1_addToRow_177 : decode cX1_addToRow 177 = .ok (.aload_n 0, 1) := dk_42 (dk_at dksX1_addToRow_7 18 rfl rfl)
theorem dX1_addToRow_178 : decode cX1_addToRow 178 = .ok (.invokevirtual 166, 3) := dk_182 0 166 (dk_at dksX1_addToRow_7 19 rfl rfl)
theorem dX1_addToRow_181 : decode cX1_addToRow 181 = .ok (.aload_n 0, 1) := dk_42 (dk_at dksX1_addToRow_7 22 rfl rfl)
theorem dX1_addToRow_182 : decode cX1_addToRow 182 = .ok (.iload_n 1, 1) := dk_27 (dk_at dksX1_addToRow_7 23 rfl rfl)
theorem dX1_addToRow_183 : decode cX1_addToRow 183 = .ok (.invokevirtual 212, 3) := dk_182 0 212 (dk_at dksX1_addToRow_8 0 rfl rfl)
theorem dX1_addToRow_186 : decode cX1_addToRow 186 = .ok (.ireturn, 1) := dk_172 (dk_at dksX1_addToRow_8 3 rfl rfl)
abbrev cX1_needState : ByteArray := prog_1_method_9_code
def yX1_needState : MethodName := ⟨RX1, "needState", "(Z)V"⟩
def dkwX1_needState_0 : List UInt8 := [26, 154, 0, 11, 187, 0, 124, 89, 183, 0, 126, 191, 177]
abbrev dktX1_needState_0 : List UInt8 := dkwX1_needState_0 ++ []
theorem dksX1_needState_0 : cX1_needState.data.toList.drop 0 = dktX1_needState_0 := by decide +kernel
theorem dX1_needState_0 : decode cX1_needState 0 = .ok (.iload_n 0, 1) := dk_26 (dk_at dksX1_needState_0 0 rfl rfl)
theorem dX1_needState_1 : decode cX1_needState 1 = .ok (.ifCond .ne 11, 3) := dk_154 0 11 (dk_at dksX1_needState_0 1 rfl rfl)
theorem dX1_needState_4 : decode cX1_needState 4 = .ok (.new 124, 3) := dk_187 0 124 (dk_at dksX1_needState_0 4 rfl rfl)
theorem dX1_needState_7 : decode cX1_needState 7 = .ok (.dup, 1) := dk_89 (dk_at dksX1_needState_0 7 rfl rfl)
theorem dX1_needState_8 : decode cX1_needState 8 = .ok (.invokespecial 126, 3) := dk_183 0 126 (dk_at dksX1_needState_0 8 rfl rfl)
theorem dX1_needState_11 : decode cX1_needState 11 = .ok (.athrow, 1) := dk_191 (dk_at dksX1_needState_0 11 rfl rfl)
theorem dX1_needState_12 : decode cX1_needState 12 = .ok (.return_, 1) := dk_177 (dk_at dksX1_needState_0 12 rfl rfl)
abbrev cX1_addToColumn : ByteArray := prog_1_method_25_code
def yX1_addToColumn : MethodName := ⟨RX1, "addToColumn", "(II)I"⟩
def dkwX1_addToColumn_8 : List UInt8 := [172]
abbrev dktX1_addToColumn_8 : List UInt8 := dkwX1_addToColumn_8 ++ []
def dkwX1_addToColumn_7 : List UInt8 := [182, 0, 135, 28, 96, 184, 0, 94, 182, 0, 181, 87, 167, 255, 210, 42, 182, 0, 166, 42, 27, 182, 0, 215]
abbrev dktX1_addToColumn_7 : List UInt8 := dkwX1_addToColumn_7 ++ dktX1_addToColumn_8
def dkwX1_addToColumn_6 : List UInt8 := [185, 0, 114, 1, 0, 192, 0, 91, 58, 5, 25, 5, 27, 25, 5, 27, 182, 0, 131, 192, 0, 95]
abbrev dktX1_addToColumn_6 : List UInt8 := dkwX1_addToColumn_6 ++ dktX1_addToColumn_7
def dkwX1_addToColumn_5 : List UInt8 := [180, 0, 20, 182, 0, 104, 58, 4, 25, 4, 185, 0, 108, 1, 0, 153, 0, 42, 25, 4]
abbrev dktX1_addToColumn_5 : List UInt8 := dkwX1_addToColumn_5 ++ dktX1_addToColumn_6
def dkwX1_addToColumn_4 : List UInt8 := [20, 0, 179, 184, 0, 127, 153, 0, 7, 4, 167, 0, 4, 3, 62, 167, 255, 184, 29, 184, 0, 209, 42]
abbrev dktX1_addToColumn_4 : List UInt8 := dkwX1_addToColumn_4 ++ dktX1_addToColumn_5
def dkwX1_addToColumn_3 : List UInt8 := [182, 0, 135, 155, 0, 32, 25, 5, 27, 182, 0, 131, 192, 0, 95, 182, 0, 135, 28, 96, 133, 9]
abbrev dktX1_addToColumn_3 : List UInt8 := dkwX1_addToColumn_3 ++ dktX1_addToColumn_4
def dkwX1_addToColumn_2 : List UInt8 := [185, 0, 114, 1, 0, 192, 0, 91, 58, 5, 29, 153, 0, 47, 25, 5, 27, 182, 0, 131, 192, 0, 95]
abbrev dktX1_addToColumn_2 : List UInt8 := dkwX1_addToColumn_2 ++ dktX1_addToColumn_3
def dkwX1_addToColumn_1 : List UInt8 := [42, 180, 0, 20, 182, 0, 104, 58, 4, 25, 4, 185, 0, 108, 1, 0, 153, 0, 68, 25, 4]
abbrev dktX1_addToColumn_1 : List UInt8 := dkwX1_addToColumn_1 ++ dktX1_addToColumn_2
def dkwX1_addToColumn_0 : List UInt8 := [42, 27, 182, 0, 173, 184, 0, 176, 28, 133, 20, 0, 207, 20, 0, 179, 184, 0, 127, 184, 0, 162, 4, 62]
abbrev dktX1_addToColumn_0 : List UInt8 := dkwX1_addToColumn_0 ++ dktX1_addToColumn_1
theorem dksX1_addToColumn_0 : cX1_addToColumn.data.toList.drop 0 = dktX1_addToColumn_0 := by decide +kernel
theorem dksX1_addToColumn_1 : cX1_addToColumn.data.toList.drop 24 = dktX1_addToColumn_1 := dk_seg dksX1_addToColumn_0 24 rfl rfl
theorem dksX1_addToColumn_2 : cX1_addToColumn.data.toList.drop 45 = dktX1_addToColumn_2 := dk_seg dksX1_addToColumn_1 21 rfl rfl
theorem dksX1_addToColumn_3 : cX1_addToColumn.data.toList.drop 68 = dktX1_addToColumn_3 := dk_seg dksX1_addToColumn_2 23 rfl rfl
theorem dksX1_addToColumn_4 : cX1_addToColumn.data.toList.drop 90 = dktX1_addToColumn_4 := dk_seg dksX1_addToColumn_3 22 rfl rfl
theorem dksX1_addToColumn_5 : cX1_addToColumn.data.toList.drop 113 = dktX1_addToColumn_5 := dk_seg dksX1_addToColumn_4 23 rfl rfl
theorem dksX1_addToColumn_6 : cX1_addToColumn.data.toList.drop 133 = dktX1_addToColumn_6 := dk_seg dksX1_addToColumn_5 20 rfl rfl
theorem dksX1_addToColumn_7 : cX1_addToColumn.data.toList.drop 155 = dktX1_addToColumn_7 := dk_seg dksX1_addToColumn_6 22 rfl rfl
theorem dksX1_addToColumn_8 : cX1_addToColumn.data.toList.drop 179 = dktX1_addToColumn_8 := dk_seg dksX1_addToColumn_7 24 rfl rfl
theorem dX1_addToColumn_0 : decode cX1_addToColumn 0 = .ok (.aload_n 0, 1) := dk_42 (dk_at dksX1_addToColumn_0 0 rfl rfl)
theorem dX1_addToColumn_1 : decode cX1_addToColumn 1 = .ok (.iload_n 1, 1) := dk_27 (dk_at dksX1_addToColumn_0 1 rfl rfl)
theorem dX1_addToColumn_2 : decode cX1_addToColumn 2 = .ok (.invokevirtual 173, 3) := dk_182 0 173 (dk_at dksX1_addToColumn_0 2 rfl rfl)
theorem dX1_addToColumn_5 : decode cX1_addToColumn 5 = .ok (.invokestatic 176, 3) := dk_184 0 176 (dk_at dksX1_addToColumn_0 5 rfl rfl)
theorem dX1_addToColumn_8 : decode cX1_addToColumn 8 = .ok (.iload_n 2, 1) := dk_28 (dk_at dksX1_addToColumn_0 8 rfl rfl)
theorem dX1_addToColumn_9 : decode cX1_addToColumn 9 = .ok (.i2l, 1) := dk_133 (dk_at dksX1_addToColumn_0 9 rfl rfl)
theorem dX1_addToColumn_10 : decode cX1_addToColumn 10 = .ok (.ldc2_w 207, 3) := dk_20 0 207 (dk_at dksX1_addToColumn_0 10 rfl rfl)
theorem dX1_addToColumn_13 : decode cX1_addToColumn 13 = .ok (.ldc2_w 179, 3) := dk_20 0 179 (dk_at dksX1_addToColumn_0 13 rfl rfl)
theorem dX1_addToColumn_16 : decode cX1_addToColumn 16 = .ok (.invokestatic 127, 3) := dk_184 0 127 (dk_at dksX1_addToColumn_0 16 rfl rfl)
theorem dX1_addToColumn_19 : decode cX1_addToColumn 19 = .ok (.invokestatic 162, 3) := dk_184 0 162 (dk_at dksX1_addToColumn_0 19 rfl rfl)
theorem dX1_addToColumn_22 : decode cX1_addToColumn 22 = .ok (.iconst 1, 1) := dk_4 (dk_at dksX1_addToColumn_0 22 rfl rfl)
theorem dX1_addToColumn_23 : decode cX1_addToColumn 23 = .ok (.istore_n 3, 1) := dk_62 (dk_at dksX1_addToColumn_0 23 rfl rfl)
theorem dX1_addToColumn_24 : decode cX1_addToColumn 24 = .ok (.aload_n 0, 1) := dk_42 (dk_at dksX1_addToColumn_1 0 rfl rfl)
theorem dX1_addToColumn_25 : decode cX1_addToColumn 25 = .ok (.getfield 20, 3) := dk_180 0 20 (dk_at dksX1_addToColumn_1 1 rfl rfl)
theorem dX1_addToColumn_28 : decode cX1_addToColumn 28 = .ok (.invokevirtual 104, 3) := dk_182 0 104 (dk_at dksX1_addToColumn_1 4 rfl rfl)
theorem dX1_addToColumn_31 : decode cX1_addToColumn 31 = .ok (.astore 4, 2) := dk_58 4 (dk_at dksX1_addToColumn_1 7 rfl rfl)
theorem dX1_addToColumn_33 : decode cX1_addToColumn 33 = .ok (.aload 4, 2) := dk_25 4 (dk_at dksX1_addToColumn_1 9 rfl rfl)
theorem dX1_addToColumn_35 : decode cX1_addToColumn 35 = .ok (.invokeinterface 108 1, 5) := by decide +kernel
theorem dX1_addToColumn_40 : decode cX1_addToColumn 40 = .ok (.ifCond .eq 68, 3) := dk_153 0 68 (dk_at dksX1_addToColumn_1 16 rfl rfl)
theorem dX1_addToColumn_43 : decode cX1_addToColumn 43 = .ok (.aload 4, 2) := dk_25 4 (dk_at dksX1_addToColumn_1 19 rfl rfl)
theorem dX1_addToColumn_45 : decode cX1_addToColumn 45 = .ok (.invokeinterface 114 1, 5) := by decide +kernel
theorem dX1_addToColumn_50 : decode cX1_addToColumn 50 = .ok (.checkcast 91, 3) := dk_192 0 91 (dk_at dksX1_addToColumn_2 5 rfl rfl)
theorem dX1_addToColumn_53 : decode cX1_addToColumn 53 = .ok (.astore 5, 2) := dk_58 5 (dk_at dksX1_addToColumn_2 8 rfl rfl)
theorem dX1_addToColumn_55 : decode cX1_addToColumn 55 = .ok (.iload_n 3, 1) := dk_29 (dk_at dksX1_addToColumn_2 10 rfl rfl)
theorem dX1_addToColumn_56 : decode cX1_addToColumn 56 = .ok (.ifCond .eq 47, 3) := dk_153 0 47 (dk_at dksX1_addToColumn_2 11 rfl rfl)
theorem dX1_addToColumn_59 : decode cX1_addToColumn 59 = .ok (.aload 5, 2) := dk_25 5 (dk_at dksX1_addToColumn_2 14 rfl rfl)
theorem dX1_addToColumn_61 : decode cX1_addToColumn 61 = .ok (.iload_n 1, 1) := dk_27 (dk_at dksX1_addToColumn_2 16 rfl rfl)
theorem dX1_addToColumn_62 : decode cX1_addToColumn 62 = .ok (.invokevirtual 131, 3) := dk_182 0 131 (dk_at dksX1_addToColumn_2 17 rfl rfl)
theorem dX1_addToColumn_65 : decode cX1_addToColumn 65 = .ok (.checkcast 95, 3) := dk_192 0 95 (dk_at dksX1_addToColumn_2 20 rfl rfl)
theorem dX1_addToColumn_68 : decode cX1_addToColumn 68 = .ok (.invokevirtual 135, 3) := dk_182 0 135 (dk_at dksX1_addToColumn_3 0 rfl rfl)
theorem dX1_addToColumn_71 : decode cX1_addToColumn 71 = .ok (.ifCond .lt 32, 3) := dk_155 0 32 (dk_at dksX1_addToColumn_3 3 rfl rfl)
theorem dX1_addToColumn_74 : decode cX1_addToColumn 74 = .ok (.aload 5, 2) := dk_25 5 (dk_at dksX1_addToColumn_3 6 rfl rfl)
theorem dX1_addToColumn_76 : decode cX1_addToColumn 76 = .ok (.iload_n 1, 1) := dk_27 (dk_at dksX1_addToColumn_3 8 rfl rfl)
theorem dX1_addToColumn_77 : decode cX1_addToColumn 77 = .ok (.invokevirtual 131, 3) := dk_182 0 131 (dk_at dksX1_addToColumn_3 9 rfl rfl)
theorem dX1_addToColumn_80 : decode cX1_addToColumn 80 = .ok (.checkcast 95, 3) := dk_192 0 95 (dk_at dksX1_addToColumn_3 12 rfl rfl)
theorem dX1_addToColumn_83 : decode cX1_addToColumn 83 = .ok (.invokevirtual 135, 3) := dk_182 0 135 (dk_at dksX1_addToColumn_3 15 rfl rfl)
theorem dX1_addToColumn_86 : decode cX1_addToColumn 86 = .ok (.iload_n 2, 1) := dk_28 (dk_at dksX1_addToColumn_3 18 rfl rfl)
theorem dX1_addToColumn_87 : decode cX1_addToColumn 87 = .ok (.iadd, 1) := dk_96 (dk_at dksX1_addToColumn_3 19 rfl rfl)
theorem dX1_addToColumn_88 : decode cX1_addToColumn 88 = .ok (.i2l, 1) := dk_133 (dk_at dksX1_addToColumn_3 20 rfl rfl)
theorem dX1_addToColumn_89 : decode cX1_addToColumn 89 = .ok (.lconst 0, 1) := dk_9 (dk_at dksX1_addToColumn_3 21 rfl rfl)
theorem dX1_addToColumn_90 : decode cX1_addToColumn 90 = .ok (.ldc2_w 179, 3) := dk_20 0 179 (dk_at dksX1_addToColumn_4 0 rfl rfl)
theorem dX1_addToColumn_93 : decode cX1_addToColumn 93 = .ok (.invokestatic 127, 3) := dk_184 0 127 (dk_at dksX1_addToColumn_4 3 rfl rfl)
theorem dX1_addToColumn_96 : decode cX1_addToColumn 96 = .ok (.ifCond .eq 7, 3) := dk_153 0 7 (dk_at dksX1_addToColumn_4 6 rfl rfl)
theorem dX1_addToColumn_99 : decode cX1_addToColumn 99 = .ok (.iconst 1, 1) := dk_4 (dk_at dksX1_addToColumn_4 9 rfl rfl)
theorem dX1_addToColumn_100 : decode cX1_addToColumn 100 = .ok (.goto 4, 3) := dk_167 0 4 (dk_at dksX1_addToColumn_4 10 rfl rfl)
theorem dX1_addToColumn_103 : decode cX1_addToColumn 103 = .ok (.iconst 0, 1) := dk_3 (dk_at dksX1_addToColumn_4 13 rfl rfl)
theorem dX1_addToColumn_104 : decode cX1_addToColumn 104 = .ok (.istore_n 3, 1) := dk_62 (dk_at dksX1_addToColumn_4 14 rfl rfl)
theorem dX1_addToColumn_105 : decode cX1_addToColumn 105 = .ok (.goto (-72), 3) := dk_167 255 184 (dk_at dksX1_addToColumn_4 15 rfl rfl)
theorem dX1_addToColumn_108 : decode cX1_addToColumn 108 = .ok (.iload_n 3, 1) := dk_29 (dk_at dksX1_addToColumn_4 18 rfl rfl)
theorem dX1_addToColumn_109 : decode cX1_addToColumn 109 = .ok (.invokestatic 209, 3) := dk_184 0 209 (dk_at dksX1_addToColumn_4 19 rfl rfl)
theorem dX1_addToColumn_112 : decode cX1_addToColumn 112 = .ok (.aload_n 0, 1) := dk_42 (dk_at dksX1_addToColumn_4 22 rfl rfl)
theorem dX1_addToColumn_113 : decode cX1_addToColumn 113 = .ok (.getfield 20, 3) := dk_180 0 20 (dk_at dksX1_addToColumn_5 0 rfl rfl)
theorem dX1_addToColumn_116 : decode cX1_addToColumn 116 = .ok (.invokevirtual 104, 3) := dk_182 0 104 (dk_at dksX1_addToColumn_5 3 rfl rfl)
theorem dX1_addToColumn_119 : decode cX1_addToColumn 119 = .ok (.astore 4, 2) := dk_58 4 (dk_at dksX1_addToColumn_5 6 rfl rfl)
theorem dX1_addToColumn_121 : decode cX1_addToColumn 121 = .ok (.aload 4, 2) := dk_25 4 (dk_at dksX1_addToColumn_5 8 rfl rfl)
theorem dX1_addToColumn_123 : decode cX1_addToColumn 123 = .ok (.invokeinterface 108 1, 5) := by decide +kernel
theorem dX1_addToColumn_128 : decode cX1_addToColumn 128 = .ok (.ifCond .eq 42, 3) := dk_153 0 42 (dk_at dksX1_addToColumn_5 15 rfl rfl)
theorem dX1_addToColumn_131 : decode cX1_addToColumn 131 = .ok (.aload 4, 2) := dk_25 4 (dk_at dksX1_addToColumn_5 18 rfl rfl)
theorem dX1_addToColumn_133 : decode cX1_addToColumn 133 = .ok (.invokeinterface 114 1, 5) := by decide +kernel
theorem dX1_addToColumn_138 : decode cX1_addToColumn 138 = .ok (.checkcast 91, 3) := dk_192 0 91 (dk_at dksX1_addToColumn_6 5 rfl rfl)
theorem dX1_addToColumn_141 : decode cX1_addToColumn 141 = .ok (.astore 5, 2) := dk_58 5 (dk_at dksX1_addToColumn_6 8 rfl rfl)
theorem dX1_addToColumn_143 : decode cX1_addToColumn 143 = .ok (.aload 5, 2) := dk_25 5 (dk_at dksX1_addToColumn_6 10 rfl rfl)
theorem dX1_addToColumn_145 : decode cX1_addToColumn 145 = .ok (.iload_n 1, 1) := dk_27 (dk_at dksX1_addToColumn_6 12 rfl rfl)
theorem dX1_addToColumn_146 : decode cX1_addToColumn 146 = .ok (.aload 5, 2) := dk_25 5 (dk_at dksX1_addToColumn_6 13 rfl rfl)
theorem dX1_addToColumn_148 : decode cX1_addToColumn 148 = .ok (.iload_n 1, 1) := dk_27 (dk_at dksX1_addToColumn_6 15 rfl rfl)
theorem dX1_addToColumn_149 : decode cX1_addToColumn 149 = .ok (.invokevirtual 131, 3) := dk_182 0 131 (dk_at dksX1_addToColumn_6 16 rfl rfl)
theorem dX1_addToColumn_152 : decode cX1_addToColumn 152 = .ok (.checkcast 95, 3) := dk_192 0 95 (dk_at dksX1_addToColumn_6 19 rfl rfl)
theorem dX1_addToColumn_155 : decode cX1_addToColumn 155 = .ok (.invokevirtual 135, 3) := dk_182 0 135 (dk_at dksX1_addToColumn_7 0 rfl rfl)
theorem dX1_addToColumn_158 : decode cX1_addToColumn 158 = .ok (.iload_n 2, 1) := dk_28 (dk_at dksX1_addToColumn_7 3 rfl rfl)
theorem dX1_addToColumn_159 : decode cX1_addToColumn 159 = .ok (.iadd, 1) := dk_96 (dk_at dksX1_addToColumn_7 4 rfl rfl)
theorem dX1_addToColumn_160 : decode cX1_addToColumn 160 = .ok (.invokestatic 94, 3) := dk_184 0 94 (dk_at dksX1_addToColumn_7 5 rfl rfl)
theorem dX1_addToColumn_163 : decode cX1_addToColumn 163 = .ok (.invokevirtual 181, 3) := dk_182 0 181 (dk_at dksX1_addToColumn_7 8 rfl rfl)
theorem dX1_addToColumn_166 : decode cX1_addToColumn 166 = .ok (.pop, 1) := dk_87 (dk_at dksX1_addToColumn_7 11 rfl rfl)
theorem dX1_addToColumn_167 : decode cX1_addToColumn 167 = .ok (.goto (-46), 3) := dk_167 255 210 (dk_at dksX1_addToColumn_7 12 rfl rfl)
theorem dX1_addToColumn_170 : decode cX1_addToColumn 170 = .ok (.aload_n 0, 1) := dk_42 (dk_at dksX1_addToColumn_7 15 rfl rfl)
theorem dX1_addToColumn_171 : decode cX1_addToColumn 171 = .ok (.invokevirtual 166, 3) := dk_182 0 166 (dk_at dksX1_addToColumn_7 16 rfl rfl)
theorem dX1_addToColumn_174 : decode cX1_addToColumn 174 = .ok (.aload_n 0, 1) := dk_42 (dk_at dksX1_addToColumn_7 19 rfl rfl)
theorem dX1_addToColumn_175 : decode cX1_addToColumn 175 = .ok (.iload_n 1, 1) := dk_27 (dk_at dksX1_addToColumn_7 20 rfl rfl)
theorem dX1_addToColumn_176 : decode cX1_addToColumn 176 = .ok (.invokevirtual 215, 3) := dk_182 0 215 (dk_at dksX1_addToColumn_7 21 rfl rfl)
theorem dX1_addToColumn_179 : decode cX1_addToColumn 179 = .ok (.ireturn, 1) := dk_172 (dk_at dksX1_addToColumn_8 0 rfl rfl)
abbrev cX1_columnSum : ByteArray := prog_1_method_23_code
def yX1_columnSum : MethodName := ⟨RX1, "columnSum", "(I)I"⟩
def dkwX1_columnSum_2 : List UInt8 := [184, 0, 139, 96, 61, 167, 255, 218, 28, 172]
abbrev dktX1_columnSum_2 : List UInt8 := dkwX1_columnSum_2 ++ []
def dkwX1_columnSum_1 : List UInt8 := [185, 0, 114, 1, 0, 192, 0, 91, 58, 4, 28, 25, 4, 27, 182, 0, 131, 192, 0, 95, 182, 0, 135]
abbrev dktX1_columnSum_1 : List UInt8 := dkwX1_columnSum_1 ++ dktX1_columnSum_2
def dkwX1_columnSum_0 : List UInt8 := [3, 61, 42, 180, 0, 20, 182, 0, 104, 78, 45, 185, 0, 108, 1, 0, 153, 0, 35, 45]
abbrev dktX1_columnSum_0 : List UInt8 := dkwX1_columnSum_0 ++ dktX1_columnSum_1
theorem dksX1_columnSum_0 : cX1_columnSum.data.toList.drop 0 = dktX1_columnSum_0 := by decide +kernel
theorem dksX1_columnSum_1 : cX1_columnSum.data.toList.drop 20 = dktX1_columnSum_1 := dk_seg dksX1_columnSum_0 20 rfl rfl
theorem dksX1_columnSum_2 : cX1_columnSum.data.toList.drop 43 = dktX1_columnSum_2 := dk_seg dksX1_columnSum_1 23 rfl rfl
theorem dX1_columnSum_0 : decode cX1_columnSum 0 = .ok (.iconst 0, 1) := dk_3 (dk_at dksX1_columnSum_0 0 rfl rfl)
theorem dX1_columnSum_1 : decode cX1_columnSum 1 = .ok (.istore_n 2, 1) := dk_61 (dk_at dksX1_columnSum_0 1 rfl rfl)
theorem dX1_columnSum_2 : decode cX1_columnSum 2 = .ok (.aload_n 0, 1) := dk_42 (dk_at dksX1_columnSum_0 2 rfl rfl)
theorem dX1_columnSum_3 : decode cX1_columnSum 3 = .ok (.getfield 20, 3) := dk_180 0 20 (dk_at dksX1_columnSum_0 3 rfl rfl)
theorem dX1_columnSum_6 : decode cX1_columnSum 6 = .ok (.invokevirtual 104, 3) := dk_182 0 104 (dk_at dksX1_columnSum_0 6 rfl rfl)
theorem dX1_columnSum_9 : decode cX1_columnSum 9 = .ok (.astore_n 3, 1) := dk_78 (dk_at dksX1_columnSum_0 9 rfl rfl)
theorem dX1_columnSum_10 : decode cX1_columnSum 10 = .ok (.aload_n 3, 1) := dk_45 (dk_at dksX1_columnSum_0 10 rfl rfl)
theorem dX1_columnSum_11 : decode cX1_columnSum 11 = .ok (.invokeinterface 108 1, 5) := by decide +kernel
theorem dX1_columnSum_16 : decode cX1_columnSum 16 = .ok (.ifCond .eq 35, 3) := dk_153 0 35 (dk_at dksX1_columnSum_0 16 rfl rfl)
theorem dX1_columnSum_19 : decode cX1_columnSum 19 = .ok (.aload_n 3, 1) := dk_45 (dk_at dksX1_columnSum_0 19 rfl rfl)
theorem dX1_columnSum_20 : decode cX1_columnSum 20 = .ok (.invokeinterface 114 1, 5) := by decide +kernel
theorem dX1_columnSum_25 : decode cX1_columnSum 25 = .ok (.checkcast 91, 3) := dk_192 0 91 (dk_at dksX1_columnSum_1 5 rfl rfl)
theorem dX1_columnSum_28 : decode cX1_columnSum 28 = .ok (.astore 4, 2) := dk_58 4 (dk_at dksX1_columnSum_1 8 rfl rfl)
theorem dX1_columnSum_30 : decode cX1_columnSum 30 = .ok (.iload_n 2, 1) := dk_28 (dk_at dksX1_columnSum_1 10 rfl rfl)
theorem dX1_columnSum_31 : decode cX1_columnSum 31 = .ok (.aload 4, 2) := dk_25 4 (dk_at dksX1_columnSum_1 11 rfl rfl)
theorem dX1_columnSum_33 : decode cX1_columnSum 33 = .ok (.iload_n 1, 1) := dk_27 (dk_at dksX1_columnSum_1 13 rfl rfl)
theorem dX1_columnSum_34 : decode cX1_columnSum 34 = .ok (.invokevirtual 131, 3) := dk_182 0 131 (dk_at dksX1_columnSum_1 14 rfl rfl)
theorem dX1_columnSum_37 : decode cX1_columnSum 37 = .ok (.checkcast 95, 3) := dk_192 0 95 (dk_at dksX1_columnSum_1 17 rfl rfl)
theorem dX1_columnSum_40 : decode cX1_columnSum 40 = .ok (.invokevirtual 135, 3) := dk_182 0 135 (dk_at dksX1_columnSum_1 20 rfl rfl)
theorem dX1_columnSum_43 : decode cX1_columnSum 43 = .ok (.invokestatic 139, 3) := dk_184 0 139 (dk_at dksX1_columnSum_2 0 rfl rfl)
theorem dX1_columnSum_46 : decode cX1_columnSum 46 = .ok (.iadd, 1) := dk_96 (dk_at dksX1_columnSum_2 3 rfl rfl)
theorem dX1_columnSum_47 : decode cX1_columnSum 47 = .ok (.istore_n 2, 1) := dk_61 (dk_at dksX1_columnSum_2 4 rfl rfl)
theorem dX1_columnSum_48 : decode cX1_columnSum 48 = .ok (.goto (-38), 3) := dk_167 255 218 (dk_at dksX1_columnSum_2 5 rfl rfl)
theorem dX1_columnSum_51 : decode cX1_columnSum 51 = .ok (.iload_n 2, 1) := dk_28 (dk_at dksX1_columnSum_2 8 rfl rfl)
theorem dX1_columnSum_52 : decode cX1_columnSum 52 = .ok (.ireturn, 1) := dk_172 (dk_at dksX1_columnSum_2 9 rfl rfl)
abbrev cX1_swapRows : ByteArray := prog_1_method_26_code
def yX1_swapRows : MethodName := ⟨RX1, "swapRows", "(II)I"⟩
def dkwX1_swapRows_3 : List UInt8 := [192, 0, 91, 182, 0, 224, 42, 182, 0, 166, 42, 27, 182, 0, 212, 172]
abbrev dktX1_swapRows_3 : List UInt8 := dkwX1_swapRows_3 ++ []
def dkwX1_swapRows_2 : List UInt8 := [182, 0, 221, 192, 0, 91, 58, 5, 42, 180, 0, 20, 21, 4, 42, 180, 0, 20, 29, 25, 5, 182, 0, 181]
abbrev dktX1_swapRows_2 : List UInt8 := dkwX1_swapRows_2 ++ dktX1_swapRows_3
def dkwX1_swapRows_1 : List UInt8 := [27, 28, 159, 0, 52, 27, 28, 184, 0, 190, 62, 27, 28, 184, 0, 218, 54, 4, 42, 180, 0, 20, 21, 4]
abbrev dktX1_swapRows_1 : List UInt8 := dkwX1_swapRows_1 ++ dktX1_swapRows_2
def dkwX1_swapRows_0 : List UInt8 := [42, 27, 182, 0, 169, 153, 0, 15, 42, 28, 182, 0, 169, 153, 0, 7, 4, 167, 0, 4, 3, 184, 0, 176]
abbrev dktX1_swapRows_0 : List UInt8 := dkwX1_swapRows_0 ++ dktX1_swapRows_1
theorem dksX1_swapRows_0 : cX1_swapRows.data.toList.drop 0 = dktX1_swapRows_0 := by decide +kernel
theorem dksX1_swapRows_1 : cX1_swapRows.data.toList.drop 24 = dktX1_swapRows_1 := dk_seg dksX1_swapRows_0 24 rfl rfl
theorem dksX1_swapRows_2 : cX1_swapRows.data.toList.drop 48 = dktX1_swapRows_2 := dk_seg dksX1_swapRows_1 24 rfl rfl
theorem dksX1_swapRows_3 : cX1_swapRows.data.toList.drop 72 = dktX1_swapRows_3 := dk_seg dksX1_swapRows_2 24 rfl rfl
theorem dX1_swapRows_0 : decode cX1_swapRows 0 = .ok (.aload_n 0, 1) := dk_42 (dk_at dksX1_swapRows_0 0 rfl rfl)
theorem dX1_swapRows_1 : decode cX1_swapRows 1 = .ok (.iload_n 1, 1) := dk_27 (dk_at dksX1_swapRows_0 1 rfl rfl)
theorem dX1_swapRows_2 : decode cX1_swapRows 2 = .ok (.invokevirtual 169, 3) := dk_182 0 169 (dk_at dksX1_swapRows_0 2 rfl rfl)
theorem dX1_swapRows_5 : decode cX1_swapRows 5 = .ok (.ifCond .eq 15, 3) := dk_153 0 15 (dk_at dksX1_swapRows_0 5 rfl rfl)
theorem dX1_swapRows_8 : decode cX1_swapRows 8 = .ok (.aload_n 0, 1) := dk_42 (dk_at dksX1_swapRows_0 8 rfl rfl)
theorem dX1_swapRows_9 : decode cX1_swapRows 9 = .ok (.iload_n 2, 1) := dk_28 (dk_at dksX1_swapRows_0 9 rfl rfl)
theorem dX1_swapRows_10 : decode cX1_swapRows 10 = .ok (.invokevirtual 169, 3) := dk_182 0 169 (dk_at dksX1_swapRows_0 10 rfl rfl)
theorem dX1_swapRows_13 : decode cX1_swapRows 13 = .ok (.ifCond .eq 7, 3) := dk_153 0 7 (dk_at dksX1_swapRows_0 13 rfl rfl)
theorem dX1_swapRows_16 : decode cX1_swapRows 16 = .ok (.iconst 1, 1) := dk_4 (dk_at dksX1_swapRows_0 16 rfl rfl)
theorem dX1_swapRows_17 : decode cX1_swapRows 17 = .ok (.goto 4, 3) := dk_167 0 4 (dk_at dksX1_swapRows_0 17 rfl rfl)
theorem dX1_swapRows_20 : decode cX1_swapRows 20 = .ok (.iconst 0, 1) := dk_3 (dk_at dksX1_swapRows_0 20 rfl rfl)
theorem dX1_swapRows_21 : decode cX1_swapRows 21 = .ok (.invokestatic 176, 3) := dk_184 0 176 (dk_at dksX1_swapRows_0 21 rfl rfl)
theorem dX1_swapRows_24 : decode cX1_swapRows 24 = .ok (.iload_n 1, 1) := dk_27 (dk_at dksX1_swapRows_1 0 rfl rfl)
theorem dX1_swapRows_25 : decode cX1_swapRows 25 = .ok (.iload_n 2, 1) := dk_28 (dk_at dksX1_swapRows_1 1 rfl rfl)
theorem dX1_swapRows_26 : decode cX1_swapRows 26 = .ok (.if_icmp .eq 52, 3) := dk_159 0 52 (dk_at dksX1_swapRows_1 2 rfl rfl)
theorem dX1_swapRows_29 : decode cX1_swapRows 29 = .ok (.iload_n 1, 1) := dk_27 (dk_at dksX1_swapRows_1 5 rfl rfl)
theorem dX1_swapRows_30 : decode cX1_swapRows 30 = .ok (.iload_n 2, 1) := dk_28 (dk_at dksX1_swapRows_1 6 rfl rfl)
theorem dX1_swapRows_31 : decode cX1_swapRows 31 = .ok (.invokestatic 190, 3) := dk_184 0 190 (dk_at dksX1_swapRows_1 7 rfl rfl)
theorem dX1_swapRows_34 : decode cX1_swapRows 34 = .ok (.istore_n 3, 1) := dk_62 (dk_at dksX1_swapRows_1 10 rfl rfl)
theorem dX1_swapRows_35 : decode cX1_swapRows 35 = .ok (.iload_n 1, 1) := dk_27 (dk_at dksX1_swapRows_1 11 rfl rfl)
theorem dX1_swapRows_36 : decode cX1_swapRows 36 = .ok (.iload_n 2, 1) := dk_28 (dk_at dksX1_swapRows_1 12 rfl rfl)
theorem dX1_swapRows_37 : decode cX1_swapRows 37 = .ok (.invokestatic 218, 3) := dk_184 0 218 (dk_at dksX1_swapRows_1 13 rfl rfl)
theorem dX1_swapRows_40 : decode cX1_swapRows 40 = .ok (.istore 4, 2) := dk_54 4 (dk_at dksX1_swapRows_1 16 rfl rfl)
theorem dX1_swapRows_42 : decode cX1_swapRows 42 = .ok (.aload_n 0, 1) := dk_42 (dk_at dksX1_swapRows_1 18 rfl rfl)
theorem dX1_swapRows_43 : decode cX1_swapRows 43 = .ok (.getfield 20, 3) := dk_180 0 20 (dk_at dksX1_swapRows_1 19 rfl rfl)
theorem dX1_swapRows_46 : decode cX1_swapRows 46 = .ok (.iload 4, 2) := dk_21 4 (dk_at dksX1_swapRows_1 22 rfl rfl)
theorem dX1_swapRows_48 : decode cX1_swapRows 48 = .ok (.invokevirtual 221, 3) := dk_182 0 221 (dk_at dksX1_swapRows_2 0 rfl rfl)
theorem dX1_swapRows_51 : decode cX1_swapRows 51 = .ok (.checkcast 91, 3) := dk_192 0 91 (dk_at dksX1_swapRows_2 3 rfl rfl)
theorem dX1_swapRows_54 : decode cX1_swapRows 54 = .ok (.astore 5, 2) := dk_58 5 (dk_at dksX1_swapRows_2 6 rfl rfl)
theorem dX1_swapRows_56 : decode cX1_swapRows 56 = .ok (.aload_n 0, 1) := dk_42 (dk_at dksX1_swapRows_2 8 rfl rfl)
theorem dX1_swapRows_57 : decode cX1_swapRows 57 = .ok (.getfield 20, 3) := dk_180 0 20 (dk_at dksX1_swapRows_2 9 rfl rfl)
theorem dX1_swapRows_60 : decode cX1_swapRows 60 = .ok (.iload 4, 2) := dk_21 4 (dk_at dksX1_swapRows_2 12 rfl rfl)
theorem dX1_swapRows_62 : decode cX1_swapRows 62 = .ok (.aload_n 0, 1) := dk_42 (dk_at dksX1_swapRows_2 14 rfl rfl)
theorem dX1_swapRows_63 : decode cX1_swapRows 63 = .ok (.getfield 20, 3) := dk_180 0 20 (dk_at dksX1_swapRows_2 15 rfl rfl)
theorem dX1_swapRows_66 : decode cX1_swapRows 66 = .ok (.iload_n 3, 1) := dk_29 (dk_at dksX1_swapRows_2 18 rfl rfl)
theorem dX1_swapRows_67 : decode cX1_swapRows 67 = .ok (.aload 5, 2) := dk_25 5 (dk_at dksX1_swapRows_2 19 rfl rfl)
theorem dX1_swapRows_69 : decode cX1_swapRows 69 = .ok (.invokevirtual 181, 3) := dk_182 0 181 (dk_at dksX1_swapRows_2 21 rfl rfl)
theorem dX1_swapRows_72 : decode cX1_swapRows 72 = .ok (.checkcast 91, 3) := dk_192 0 91 (dk_at dksX1_swapRows_3 0 rfl rfl)
theorem dX1_swapRows_75 : decode cX1_swapRows 75 = .ok (.invokevirtual 224, 3) := dk_182 0 224 (dk_at dksX1_swapRows_3 3 rfl rfl)
theorem dX1_swapRows_78 : decode cX1_swapRows 78 = .ok (.aload_n 0, 1) := dk_42 (dk_at dksX1_swapRows_3 6 rfl rfl)
theorem dX1_swapRows_79 : decode cX1_swapRows 79 = .ok (.invokevirtual 166, 3) := dk_182 0 166 (dk_at dksX1_swapRows_3 7 rfl rfl)
theorem dX1_swapRows_82 : decode cX1_swapRows 82 = .ok (.aload_n 0, 1) := dk_42 (dk_at dksX1_swapRows_3 10 rfl rfl)
theorem dX1_swapRows_83 : decode cX1_swapRows 83 = .ok (.iload_n 1, 1) := dk_27 (dk_at dksX1_swapRows_3 11 rfl rfl)
theorem dX1_swapRows_84 : decode cX1_swapRows 84 = .ok (.invokevirtual 212, 3) := dk_182 0 212 (dk_at dksX1_swapRows_3 12 rfl rfl)
theorem dX1_swapRows_87 : decode cX1_swapRows 87 = .ok (.ireturn, 1) := dk_172 (dk_at dksX1_swapRows_3 15 rfl rfl)
abbrev cX1_swapColumns : ByteArray := prog_1_method_27_code
def yX1_swapColumns : MethodName := ⟨RX1, "swapColumns", "(II)I"⟩
def dkwX1_swapColumns_3 : List UInt8 := [192, 0, 95, 182, 0, 181, 87, 167, 255, 211, 42, 182, 0, 166, 42, 27, 182, 0, 215, 172]
abbrev dktX1_swapColumns_3 : List UInt8 := dkwX1_swapColumns_3 ++ []
def dkwX1_swapColumns_2 : List UInt8 := [192, 0, 91, 58, 4, 25, 4, 28, 25, 4, 27, 25, 4, 28, 182, 0, 131, 192, 0, 95, 182, 0, 181]
abbrev dktX1_swapColumns_2 : List UInt8 := dkwX1_swapColumns_2 ++ dktX1_swapColumns_3
def dkwX1_swapColumns_1 : List UInt8 := [42, 180, 0, 20, 182, 0, 104, 78, 45, 185, 0, 108, 1, 0, 153, 0, 42, 45, 185, 0, 114, 1, 0]
abbrev dktX1_swapColumns_1 : List UInt8 := dkwX1_swapColumns_1 ++ dktX1_swapColumns_2
def dkwX1_swapColumns_0 : List UInt8 := [42, 27, 182, 0, 173, 153, 0, 15, 42, 28, 182, 0, 173, 153, 0, 7, 4, 167, 0, 4, 3, 184, 0, 176]
abbrev dktX1_swapColumns_0 : List UInt8 := dkwX1_swapColumns_0 ++ dktX1_swapColumns_1
theorem dksX1_swapColumns_0 : cX1_swapColumns.data.toList.drop 0 = dktX1_swapColumns_0 := by decide +kernel
theorem dksX1_swapColumns_1 : cX1_swapColumns.data.toList.drop 24 = dktX1_swapColumns_1 := dk_seg dksX1_swapColumns_0 24 rfl rfl
theorem dksX1_swapColumns_2 : cX1_swapColumns.data.toList.drop 47 = dktX1_swapColumns_2 := dk_seg dksX1_swapColumns_1 23 rfl rfl
theorem dksX1_swapColumns_3 : cX1_swapColumns.data.toList.drop 70 = dktX1_swapColumns_3 := dk_seg dksX1_swapColumns_2 23 rfl rfl
theorem dX1_swapColumns_0 : decode cX1_swapColumns 0 = .ok (.aload_n 0, 1) := dk_42 (dk_at dksX1_swapColumns_0 0 rfl rfl)
theorem dX1_swapColumns_1 : decode cX1_swapColumns 1 = .ok (.iload_n 1, 1) := dk_27 (dk_at dksX1_swapColumns_0 1 rfl rfl)
theorem dX1_swapColumns_2 : decode cX1_swapColumns 2 = .ok (.invokevirtual 173, 3) := dk_182 0 173 (dk_at dksX1_swapColumns_0 2 rfl rfl)
theorem dX1_swapColumns_5 : decode cX1_swapColumns 5 = .ok (.ifCond .eq 15, 3) := dk_153 0 15 (dk_at dksX1_swapColumns_0 5 rfl rfl)
theorem dX1_swapColumns_8 : decode cX1_swapColumns 8 = .ok (.aload_n 0, 1) := dk_42 (dk_at dksX1_swapColumns_0 8 rfl rfl)
theorem dX1_swapColumns_9 : decode cX1_swapColumns 9 = .ok (.iload_n 2, 1) := dk_28 (dk_at dksX1_swapColumns_0 9 rfl rfl)
theorem dX1_swapColumns_10 : decode cX1_swapColumns 10 = .ok (.invokevirtual 173, 3) := dk_182 0 173 (dk_at dksX1_swapColumns_0 10 rfl rfl)
theorem dX1_swapColumns_13 : decode cX1_swapColumns 13 = .ok (.ifCond .eq 7, 3) := dk_153 0 7 (dk_at dksX1_swapColumns_0 13 rfl rfl)
theorem dX1_swapColumns_16 : decode cX1_swapColumns 16 = .ok (.iconst 1, 1) := dk_4 (dk_at dksX1_swapColumns_0 16 rfl rfl)
theorem dX1_swapColumns_17 : decode cX1_swapColumns 17 = .ok (.goto 4, 3) := dk_167 0 4 (dk_at dksX1_swapColumns_0 17 rfl rfl)
theorem dX1_swapColumns_20 : decode cX1_swapColumns 20 = .ok (.iconst 0, 1) := dk_3 (dk_at dksX1_swapColumns_0 20 rfl rfl)
theorem dX1_swapColumns_21 : decode cX1_swapColumns 21 = .ok (.invokestatic 176, 3) := dk_184 0 176 (dk_at dksX1_swapColumns_0 21 rfl rfl)
theorem dX1_swapColumns_24 : decode cX1_swapColumns 24 = .ok (.aload_n 0, 1) := dk_42 (dk_at dksX1_swapColumns_1 0 rfl rfl)
theorem dX1_swapColumns_25 : decode cX1_swapColumns 25 = .ok (.getfield 20, 3) := dk_180 0 20 (dk_at dksX1_swapColumns_1 1 rfl rfl)
theorem dX1_swapColumns_28 : decode cX1_swapColumns 28 = .ok (.invokevirtual 104, 3) := dk_182 0 104 (dk_at dksX1_swapColumns_1 4 rfl rfl)
theorem dX1_swapColumns_31 : decode cX1_swapColumns 31 = .ok (.astore_n 3, 1) := dk_78 (dk_at dksX1_swapColumns_1 7 rfl rfl)
theorem dX1_swapColumns_32 : decode cX1_swapColumns 32 = .ok (.aload_n 3, 1) := dk_45 (dk_at dksX1_swapColumns_1 8 rfl rfl)
theorem dX1_swapColumns_33 : decode cX1_swapColumns 33 = .ok (.invokeinterface 108 1, 5) := by decide +kernel
theorem dX1_swapColumns_38 : decode cX1_swapColumns 38 = .ok (.ifCond .eq 42, 3) := dk_153 0 42 (dk_at dksX1_swapColumns_1 14 rfl rfl)
theorem dX1_swapColumns_41 : decode cX1_swapColumns 41 = .ok (.aload_n 3, 1) := dk_45 (dk_at dksX1_swapColumns_1 17 rfl rfl)
theorem dX1_swapColumns_42 : decode cX1_swapColumns 42 = .ok (.invokeinterface 114 1, 5) := by decide +kernel
theorem dX1_swapColumns_47 : decode cX1_swapColumns 47 = .ok (.checkcast 91, 3) := dk_192 0 91 (dk_at dksX1_swapColumns_2 0 rfl rfl)
theorem dX1_swapColumns_50 : decode cX1_swapColumns 50 = .ok (.astore 4, 2) := dk_58 4 (dk_at dksX1_swapColumns_2 3 rfl rfl)
theorem dX1_swapColumns_52 : decode cX1_swapColumns 52 = .ok (.aload 4, 2) := dk_25 4 (dk_at dksX1_swapColumns_2 5 rfl rfl)
theorem dX1_swapColumns_54 : decode cX1_swapColumns 54 = .ok (.iload_n 2, 1) := dk_28 (dk_at dksX1_swapColumns_2 7 rfl rfl)
theorem dX1_swapColumns_55 : decode cX1_swapColumns 55 = .ok (.aload 4, 2) := dk_25 4 (dk_at dksX1_swapColumns_2 8 rfl rfl)
theorem dX1_swapColumns_57 : decode cX1_swapColumns 57 = .ok (.iload_n 1, 1) := dk_27 (dk_at dksX1_swapColumns_2 10 rfl rfl)
theorem dX1_swapColumns_58 : decode cX1_swapColumns 58 = .ok (.aload 4, 2) := dk_25 4 (dk_at dksX1_swapColumns_2 11 rfl rfl)
theorem dX1_swapColumns_60 : decode cX1_swapColumns 60 = .ok (.iload_n 2, 1) := dk_28 (dk_at dksX1_swapColumns_2 13 rfl rfl)
theorem dX1_swapColumns_61 : decode cX1_swapColumns 61 = .ok (.invokevirtual 131, 3) := dk_182 0 131 (dk_at dksX1_swapColumns_2 14 rfl rfl)
theorem dX1_swapColumns_64 : decode cX1_swapColumns 64 = .ok (.checkcast 95, 3) := dk_192 0 95 (dk_at dksX1_swapColumns_2 17 rfl rfl)
theorem dX1_swapColumns_67 : decode cX1_swapColumns 67 = .ok (.invokevirtual 181, 3) := dk_182 0 181 (dk_at dksX1_swapColumns_2 20 rfl rfl)
theorem dX1_swapColumns_70 : decode cX1_swapColumns 70 = .ok (.checkcast 95, 3) := dk_192 0 95 (dk_at dksX1_swapColumns_3 0 rfl rfl)
theorem dX1_swapColumns_73 : decode cX1_swapColumns 73 = .ok (.invokevirtual 181, 3) := dk_182 0 181 (dk_at dksX1_swapColumns_3 3 rfl rfl)
theorem dX1_swapColumns_76 : decode cX1_swapColumns 76 = .ok (.pop, 1) := dk_87 (dk_at dksX1_swapColumns_3 6 rfl rfl)
theorem dX1_swapColumns_77 : decode cX1_swapColumns 77 = .ok (.goto (-45), 3) := dk_167 255 211 (dk_at dksX1_swapColumns_3 7 rfl rfl)
theorem dX1_swapColumns_80 : decode cX1_swapColumns 80 = .ok (.aload_n 0, 1) := dk_42 (dk_at dksX1_swapColumns_3 10 rfl rfl)
theorem dX1_swapColumns_81 : decode cX1_swapColumns 81 = .ok (.invokevirtual 166, 3) := dk_182 0 166 (dk_at dksX1_swapColumns_3 11 rfl rfl)
theorem dX1_swapColumns_84 : decode cX1_swapColumns 84 = .ok (.aload_n 0, 1) := dk_42 (dk_at dksX1_swapColumns_3 14 rfl rfl)
theorem dX1_swapColumns_85 : decode cX1_swapColumns 85 = .ok (.iload_n 1, 1) := dk_27 (dk_at dksX1_swapColumns_3 15 rfl rfl)
theorem dX1_swapColumns_86 : decode cX1_swapColumns 86 = .ok (.invokevirtual 215, 3) := dk_182 0 215 (dk_at dksX1_swapColumns_3 16 rfl rfl)
theorem dX1_swapColumns_89 : decode cX1_swapColumns 89 = .ok (.ireturn, 1) := dk_172 (dk_at dksX1_swapColumns_3 19 rfl rfl)
abbrev cX1_transpose : ByteArray := prog_1_method_28_code
def yX1_transpose : MethodName := ⟨RX1, "transpose", "()I"⟩
def dkwX1_transpose_5 : List UInt8 := [42, 180, 0, 7, 172]
abbrev dktX1_transpose_5 : List UInt8 := dkwX1_transpose_5 ++ []
def dkwX1_transpose_4 : List UInt8 := [167, 255, 220, 43, 45, 182, 0, 100, 87, 132, 2, 1, 167, 255, 183, 42, 43, 181, 0, 20, 42, 182, 0, 166]
abbrev dktX1_transpose_4 : List UInt8 := dkwX1_transpose_4 ++ dktX1_transpose_5
def dkwX1_transpose_3 : List UInt8 := [185, 0, 114, 1, 0, 192, 0, 91, 58, 5, 45, 25, 5, 28, 182, 0, 131, 192, 0, 95, 182, 0, 100, 87]
abbrev dktX1_transpose_3 : List UInt8 := dkwX1_transpose_3 ++ dktX1_transpose_4
def dkwX1_transpose_2 : List UInt8 := [180, 0, 20, 182, 0, 104, 58, 4, 25, 4, 185, 0, 108, 1, 0, 153, 0, 32, 25, 4]
abbrev dktX1_transpose_2 : List UInt8 := dkwX1_transpose_2 ++ dktX1_transpose_3
def dkwX1_transpose_1 : List UInt8 := [183, 0, 93, 76, 3, 61, 28, 42, 180, 0, 7, 162, 0, 71, 187, 0, 91, 89, 183, 0, 93, 78, 42]
abbrev dktX1_transpose_1 : List UInt8 := dkwX1_transpose_1 ++ dktX1_transpose_2
def dkwX1_transpose_0 : List UInt8 := [42, 180, 0, 13, 42, 180, 0, 7, 160, 0, 7, 4, 167, 0, 4, 3, 184, 0, 209, 187, 0, 91, 89]
abbrev dktX1_transpose_0 : List UInt8 := dkwX1_transpose_0 ++ dktX1_transpose_1
theorem dksX1_transpose_0 : cX1_transpose.data.toList.drop 0 = dktX1_transpose_0 := by decide +kernel
theorem dksX1_transpose_1 : cX1_transpose.data.toList.drop 23 = dktX1_transpose_1 := dk_seg dksX1_transpose_0 23 rfl rfl
theorem dksX1_transpose_2 : cX1_transpose.data.toList.drop 46 = dktX1_transpose_2 := dk_seg dksX1_transpose_1 23 rfl rfl
theorem dksX1_transpose_3 : cX1_transpose.data.toList.drop 66 = dktX1_transpose_3 := dk_seg dksX1_transpose_2 20 rfl rfl
theorem dksX1_transpose_4 : cX1_transpose.data.toList.drop 90 = dktX1_transpose_4 := dk_seg dksX1_transpose_3 24 rfl rfl
theorem dksX1_transpose_5 : cX1_transpose.data.toList.drop 114 = dktX1_transpose_5 := dk_seg dksX1_transpose_4 24 rfl rfl
theorem dX1_transpose_0 : decode cX1_transpose 0 = .ok (.aload_n 0, 1) := dk_42 (dk_at dksX1_transpose_0 0 rfl rfl)
theorem dX1_transpose_1 : decode cX1_transpose 1 = .ok (.getfield 13, 3) := dk_180 0 13 (dk_at dksX1_transpose_0 1 rfl rfl)
theorem dX1_transpose_4 : decode cX1_transpose 4 = .ok (.aload_n 0, 1) := dk_42 (dk_at dksX1_transpose_0 4 rfl rfl)
theorem dX1_transpose_5 : decode cX1_transpose 5 = .ok (.getfield 7, 3) := dk_180 0 7 (dk_at dksX1_transpose_0 5 rfl rfl)
theorem dX1_transpose_8 : decode cX1_transpose 8 = .ok (.if_icmp .ne 7, 3) := dk_160 0 7 (dk_at dksX1_transpose_0 8 rfl rfl)
theorem dX1_transpose_11 : decode cX1_transpose 11 = .ok (.iconst 1, 1) := dk_4 (dk_at dksX1_transpose_0 11 rfl rfl)
theorem dX1_transpose_12 : decode cX1_transpose 12 = .ok (.goto 4, 3) := dk_167 0 4 (dk_at dksX1_transpose_0 12 rfl rfl)
theorem dX1_transpose_15 : decode cX1_transpose 15 = .ok (.iconst 0, 1) := dk_3 (dk_at dksX1_transpose_0 15 rfl rfl)
theorem dX1_transpose_16 : decode cX1_transpose 16 = .ok (.invokestatic 209, 3) := dk_184 0 209 (dk_at dksX1_transpose_0 16 rfl rfl)
theorem dX1_transpose_19 : decode cX1_transpose 19 = .ok (.new 91, 3) := dk_187 0 91 (dk_at dksX1_transpose_0 19 rfl rfl)
theorem dX1_transpose_22 : decode cX1_transpose 22 = .ok (.dup, 1) := dk_89 (dk_at dksX1_transpose_0 22 rfl rfl)
theorem dX1_transpose_23 : decode cX1_transpose 23 = .ok (.invokespecial 93, 3) := dk_183 0 93 (dk_at dksX1_transpose_1 0 rfl rfl)
theorem dX1_transpose_26 : decode cX1_transpose 26 = .ok (.astore_n 1, 1) := dk_76 (dk_at dksX1_transpose_1 3 rfl rfl)
theorem dX1_transpose_27 : decode cX1_transpose 27 = .ok (.iconst 0, 1) := dk_3 (dk_at dksX1_transpose_1 4 rfl rfl)
theorem dX1_transpose_28 : decode cX1_transpose 28 = .ok (.istore_n 2, 1) := dk_61 (dk_at dksX1_transpose_1 5 rfl rfl)
theorem dX1_transpose_29 : decode cX1_transpose 29 = .ok (.iload_n 2, 1) := dk_28 (dk_at dksX1_transpose_1 6 rfl rfl)
theorem dX1_transpose_30 : decode cX1_transpose 30 = .ok (.aload_n 0, 1) := dk_42 (dk_at dksX1_transpose_1 7 rfl rfl)
theorem dX1_transpose_31 : decode cX1_transpose 31 = .ok (.getfield 7, 3) := dk_180 0 7 (dk_at dksX1_transpose_1 8 rfl rfl)
theorem dX1_transpose_34 : decode cX1_transpose 34 = .ok (.if_icmp .ge 71, 3) := dk_162 0 71 (dk_at dksX1_transpose_1 11 rfl rfl)
theorem dX1_transpose_37 : decode cX1_transpose 37 = .ok (.new 91, 3) := dk_187 0 91 (dk_at dksX1_transpose_1 14 rfl rfl)
theorem dX1_transpose_40 : decode cX1_transpose 40 = .ok (.dup, 1) := dk_89 (dk_at dksX1_transpose_1 17 rfl rfl)
theorem dX1_transpose_41 : decode cX1_transpose 41 = .ok (.invokespecial 93, 3) := dk_183 0 93 (dk_at dksX1_transpose_1 18 rfl rfl)
theorem dX1_transpose_44 : decode cX1_transpose 44 = .ok (.astore_n 3, 1) := dk_78 (dk_at dksX1_transpose_1 21 rfl rfl)
theorem dX1_transpose_45 : decode cX1_transpose 45 = .ok (.aload_n 0, 1) := dk_42 (dk_at dksX1_transpose_1 22 rfl rfl)
theorem dX1_transpose_46 : decode cX1_transpose 46 = .ok (.getfield 20, 3) := dk_180 0 20 (dk_at dksX1_transpose_2 0 rfl rfl)
theorem dX1_transpose_49 : decode cX1_transpose 49 = .ok (.invokevirtual 104, 3) := dk_182 0 104 (dk_at dksX1_transpose_2 3 rfl rfl)
theorem dX1_transpose_52 : decode cX1_transpose 52 = .ok (.astore 4, 2) := dk_58 4 (dk_at dksX1_transpose_2 6 rfl rfl)
theorem dX1_transpose_54 : decode cX1_transpose 54 = .ok (.aload 4, 2) := dk_25 4 (dk_at dksX1_transpose_2 8 rfl rfl)
theorem dX1_transpose_56 : decode cX1_transpose 56 = .ok (.invokeinterface 108 1, 5) := by decide +kernel
theorem dX1_transpose_61 : decode cX1_transpose 61 = .ok (.ifCond .eq 32, 3) := dk_153 0 32 (dk_at dksX1_transpose_2 15 rfl rfl)
theorem dX1_transpose_64 : decode cX1_transpose 64 = .ok (.aload 4, 2) := dk_25 4 (dk_at dksX1_transpose_2 18 rfl rfl)
theorem dX1_transpose_66 : decode cX1_transpose 66 = .ok (.invokeinterface 114 1, 5) := by decide +kernel
theorem dX1_transpose_71 : decode cX1_transpose 71 = .ok (.checkcast 91, 3) := dk_192 0 91 (dk_at dksX1_transpose_3 5 rfl rfl)
theorem dX1_transpose_74 : decode cX1_transpose 74 = .ok (.astore 5, 2) := dk_58 5 (dk_at dksX1_transpose_3 8 rfl rfl)
theorem dX1_transpose_76 : decode cX1_transpose 76 = .ok (.aload_n 3, 1) := dk_45 (dk_at dksX1_transpose_3 10 rfl rfl)
theorem dX1_transpose_77 : decode cX1_transpose 77 = .ok (.aload 5, 2) := dk_25 5 (dk_at dksX1_transpose_3 11 rfl rfl)
theorem dX1_transpose_79 : decode cX1_transpose 79 = .ok (.iload_n 2, 1) := dk_28 (dk_at dksX1_transpose_3 13 rfl rfl)
theorem dX1_transpose_80 : decode cX1_transpose 80 = .ok (.invokevirtual 131, 3) := dk_182 0 131 (dk_at dksX1_transpose_3 14 rfl rfl)
theorem dX1_transpose_83 : decode cX1_transpose 83 = .ok (.checkcast 95, 3) := dk_192 0 95 (dk_at dksX1_transpose_3 17 rfl rfl)
theorem dX1_transpose_86 : decode cX1_transpose 86 = .ok (.invokevirtual 100, 3) := dk_182 0 100 (dk_at dksX1_transpose_3 20 rfl rfl)
theorem dX1_transpose_89 : decode cX1_transpose 89 = .ok (.pop, 1) := dk_87 (dk_at dksX1_transpose_3 23 rfl rfl)
theorem dX1_transpose_90 : decode cX1_transpose 90 = .ok (.goto (-36), 3) := dk_167 255 220 (dk_at dksX1_transpose_4 0 rfl rfl)
theorem dX1_transpose_93 : decode cX1_transpose 93 = .ok (.aload_n 1, 1) := dk_43 (dk_at dksX1_transpose_4 3 rfl rfl)
theorem dX1_transpose_94 : decode cX1_transpose 94 = .ok (.aload_n 3, 1) := dk_45 (dk_at dksX1_transpose_4 4 rfl rfl)
theorem dX1_transpose_95 : decode cX1_transpose 95 = .ok (.invokevirtual 100, 3) := dk_182 0 100 (dk_at dksX1_transpose_4 5 rfl rfl)
theorem dX1_transpose_98 : decode cX1_transpose 98 = .ok (.pop, 1) := dk_87 (dk_at dksX1_transpose_4 8 rfl rfl)
theorem dX1_transpose_99 : decode cX1_transpose 99 = .ok (.iinc 2 1, 3) := dk_132 2 1 (dk_at dksX1_transpose_4 9 rfl rfl)
theorem dX1_transpose_102 : decode cX1_transpose 102 = .ok (.goto (-73), 3) := dk_167 255 183 (dk_at dksX1_transpose_4 12 rfl rfl)
theorem dX1_transpose_105 : decode cX1_transpose 105 = .ok (.aload_n 0, 1) := dk_42 (dk_at dksX1_transpose_4 15 rfl rfl)
theorem dX1_transpose_106 : decode cX1_transpose 106 = .ok (.aload_n 1, 1) := dk_43 (dk_at dksX1_transpose_4 16 rfl rfl)
theorem dX1_transpose_107 : decode cX1_transpose 107 = .ok (.putfield 20, 3) := dk_181 0 20 (dk_at dksX1_transpose_4 17 rfl rfl)
theorem dX1_transpose_110 : decode cX1_transpose 110 = .ok (.aload_n 0, 1) := dk_42 (dk_at dksX1_transpose_4 20 rfl rfl)
theorem dX1_transpose_111 : decode cX1_transpose 111 = .ok (.invokevirtual 166, 3) := dk_182 0 166 (dk_at dksX1_transpose_4 21 rfl rfl)
theorem dX1_transpose_114 : decode cX1_transpose 114 = .ok (.aload_n 0, 1) := dk_42 (dk_at dksX1_transpose_5 0 rfl rfl)
theorem dX1_transpose_115 : decode cX1_transpose 115 = .ok (.getfield 7, 3) := dk_180 0 7 (dk_at dksX1_transpose_5 1 rfl rfl)
theorem dX1_transpose_118 : decode cX1_transpose 118 = .ok (.ireturn, 1) := dk_172 (dk_at dksX1_transpose_5 4 rfl rfl)
abbrev cX1_assigned : ByteArray := prog_1_method_50_code
def yX1_assigned : MethodName := ⟨RX1, "assigned", "(I)I"⟩
def dkwX1_assigned_0 : List UInt8 := [42, 27, 182, 0, 169, 184, 0, 176, 42, 182, 1, 36, 87, 42, 180, 0, 48, 27, 46, 172]
abbrev dktX1_assigned_0 : List UInt8 := dkwX1_assigned_0 ++ []
theorem dksX1_assigned_0 : cX1_assigned.data.toList.drop 0 = dktX1_assigned_0 := by decide +kernel
theorem dX1_assigned_0 : decode cX1_assigned 0 = .ok (.aload_n 0, 1) := dk_42 (dk_at dksX1_assigned_0 0 rfl rfl)
theorem dX1_assigned_1 : decode cX1_assigned 1 = .ok (.iload_n 1, 1) := dk_27 (dk_at dksX1_assigned_0 1 rfl rfl)
theorem dX1_assigned_2 : decode cX1_assigned 2 = .ok (.invokevirtual 169, 3) := dk_182 0 169 (dk_at dksX1_assigned_0 2 rfl rfl)
theorem dX1_assigned_5 : decode cX1_assigned 5 = .ok (.invokestatic 176, 3) := dk_184 0 176 (dk_at dksX1_assigned_0 5 rfl rfl)
theorem dX1_assigned_8 : decode cX1_assigned 8 = .ok (.aload_n 0, 1) := dk_42 (dk_at dksX1_assigned_0 8 rfl rfl)
theorem dX1_assigned_9 : decode cX1_assigned 9 = .ok (.invokevirtual 292, 3) := dk_182 1 36 (dk_at dksX1_assigned_0 9 rfl rfl)
theorem dX1_assigned_12 : decode cX1_assigned 12 = .ok (.pop, 1) := dk_87 (dk_at dksX1_assigned_0 12 rfl rfl)
theorem dX1_assigned_13 : decode cX1_assigned 13 = .ok (.aload_n 0, 1) := dk_42 (dk_at dksX1_assigned_0 13 rfl rfl)
theorem dX1_assigned_14 : decode cX1_assigned 14 = .ok (.getfield 48, 3) := dk_180 0 48 (dk_at dksX1_assigned_0 14 rfl rfl)
theorem dX1_assigned_17 : decode cX1_assigned 17 = .ok (.iload_n 1, 1) := dk_27 (dk_at dksX1_assigned_0 17 rfl rfl)
theorem dX1_assigned_18 : decode cX1_assigned 18 = .ok (.iaload, 1) := dk_46 (dk_at dksX1_assigned_0 18 rfl rfl)
theorem dX1_assigned_19 : decode cX1_assigned 19 = .ok (.ireturn, 1) := dk_172 (dk_at dksX1_assigned_0 19 rfl rfl)
abbrev cX1_rowPotential : ByteArray := prog_1_method_52_code
def yX1_rowPotential : MethodName := ⟨RX1, "rowPotential", "(I)I"⟩
def dkwX1_rowPotential_0 : List UInt8 := [42, 27, 182, 0, 169, 184, 0, 176, 42, 182, 1, 39, 87, 42, 180, 0, 76, 27, 46, 172]
abbrev dktX1_rowPotential_0 : List UInt8 := dkwX1_rowPotential_0 ++ []
theorem dksX1_rowPotential_0 : cX1_rowPotential.data.toList.drop 0 = dktX1_rowPotential_0 := by decide +kernel
theorem dX1_rowPotential_0 : decode cX1_rowPotential 0 = .ok (.aload_n 0, 1) := dk_42 (dk_at dksX1_rowPotential_0 0 rfl rfl)
theorem dX1_rowPotential_1 : decode cX1_rowPotential 1 = .ok (.iload_n 1, 1) := dk_27 (dk_at dksX1_rowPotential_0 1 rfl rfl)
theorem dX1_rowPotential_2 : decode cX1_rowPotential 2 = .ok (.invokevirtual 169, 3) := dk_182 0 169 (dk_at dksX1_rowPotential_0 2 rfl rfl)
theorem dX1_rowPotential_5 : decode cX1_rowPotential 5 = .ok (.invokestatic 176, 3) := dk_184 0 176 (dk_at dksX1_rowPotential_0 5 rfl rfl)
theorem dX1_rowPotential_8 : decode cX1_rowPotential 8 = .ok (.aload_n 0, 1) := dk_42 (dk_at dksX1_rowPotential_0 8 rfl rfl)
theorem dX1_rowPotential_9 : decode cX1_rowPotential 9 = .ok (.invokevirtual 295, 3) := dk_182 1 39 (dk_at dksX1_rowPotential_0 9 rfl rfl)
theorem dX1_rowPotential_12 : decode cX1_rowPotential 12 = .ok (.pop, 1) := dk_87 (dk_at dksX1_rowPotential_0 12 rfl rfl)
theorem dX1_rowPotential_13 : decode cX1_rowPotential 13 = .ok (.aload_n 0, 1) := dk_42 (dk_at dksX1_rowPotential_0 13 rfl rfl)
theorem dX1_rowPotential_14 : decode cX1_rowPotential 14 = .ok (.getfield 76, 3) := dk_180 0 76 (dk_at dksX1_rowPotential_0 14 rfl rfl)
theorem dX1_rowPotential_17 : decode cX1_rowPotential 17 = .ok (.iload_n 1, 1) := dk_27 (dk_at dksX1_rowPotential_0 17 rfl rfl)
theorem dX1_rowPotential_18 : decode cX1_rowPotential 18 = .ok (.iaload, 1) := dk_46 (dk_at dksX1_rowPotential_0 18 rfl rfl)
theorem dX1_rowPotential_19 : decode cX1_rowPotential 19 = .ok (.ireturn, 1) := dk_172 (dk_at dksX1_rowPotential_0 19 rfl rfl)
abbrev cX1_columnPotential : ByteArray := prog_1_method_53_code
def yX1_columnPotential : MethodName := ⟨RX1, "columnPotential", "(I)I"⟩
def dkwX1_columnPotential_0 : List UInt8 := [42, 27, 182, 0, 169, 184, 0, 176, 42, 182, 1, 39, 87, 42, 180, 0, 79, 27, 46, 172]
abbrev dktX1_columnPotential_0 : List UInt8 := dkwX1_columnPotential_0 ++ []
theorem dksX1_columnPotential_0 : cX1_columnPotential.data.toList.drop 0 = dktX1_columnPotential_0 := by decide +kernel
theorem dX1_columnPotential_0 : decode cX1_columnPotential 0 = .ok (.aload_n 0, 1) := dk_42 (dk_at dksX1_columnPotential_0 0 rfl rfl)
theorem dX1_columnPotential_1 : decode cX1_columnPotential 1 = .ok (.iload_n 1, 1) := dk_27 (dk_at dksX1_columnPotential_0 1 rfl rfl)
theorem dX1_columnPotential_2 : decode cX1_columnPotential 2 = .ok (.invokevirtual 169, 3) := dk_182 0 169 (dk_at dksX1_columnPotential_0 2 rfl rfl)
theorem dX1_columnPotential_5 : decode cX1_columnPotential 5 = .ok (.invokestatic 176, 3) := dk_184 0 176 (dk_at dksX1_columnPotential_0 5 rfl rfl)
theorem dX1_columnPotential_8 : decode cX1_columnPotential 8 = .ok (.aload_n 0, 1) := dk_42 (dk_at dksX1_columnPotential_0 8 rfl rfl)
theorem dX1_columnPotential_9 : decode cX1_columnPotential 9 = .ok (.invokevirtual 295, 3) := dk_182 1 39 (dk_at dksX1_columnPotential_0 9 rfl rfl)
theorem dX1_columnPotential_12 : decode cX1_columnPotential 12 = .ok (.pop, 1) := dk_87 (dk_at dksX1_columnPotential_0 12 rfl rfl)
theorem dX1_columnPotential_13 : decode cX1_columnPotential 13 = .ok (.aload_n 0, 1) := dk_42 (dk_at dksX1_columnPotential_0 13 rfl rfl)
theorem dX1_columnPotential_14 : decode cX1_columnPotential 14 = .ok (.getfield 79, 3) := dk_180 0 79 (dk_at dksX1_columnPotential_0 14 rfl rfl)
theorem dX1_columnPotential_17 : decode cX1_columnPotential 17 = .ok (.iload_n 1, 1) := dk_27 (dk_at dksX1_columnPotential_0 17 rfl rfl)
theorem dX1_columnPotential_18 : decode cX1_columnPotential 18 = .ok (.iaload, 1) := dk_46 (dk_at dksX1_columnPotential_0 18 rfl rfl)
theorem dX1_columnPotential_19 : decode cX1_columnPotential 19 = .ok (.ireturn, 1) := dk_172 (dk_at dksX1_columnPotential_0 19 rfl rfl)
abbrev cX1_reducedCost : ByteArray := prog_1_method_54_code
def yX1_reducedCost : MethodName := ⟨RX1, "reducedCost", "(II)I"⟩
def dkwX1_reducedCost_2 : List UInt8 := [100, 172]
abbrev dktX1_reducedCost_2 : List UInt8 := dkwX1_reducedCost_2 ++ []
def dkwX1_reducedCost_1 : List UInt8 := [42, 182, 1, 39, 87, 42, 27, 28, 182, 0, 204, 42, 180, 0, 76, 27, 46, 100, 42, 180, 0, 79, 28, 46]
abbrev dktX1_reducedCost_1 : List UInt8 := dkwX1_reducedCost_1 ++ dktX1_reducedCost_2
def dkwX1_reducedCost_0 : List UInt8 := [42, 27, 182, 0, 169, 153, 0, 15, 42, 28, 182, 0, 169, 153, 0, 7, 4, 167, 0, 4, 3, 184, 0, 176]
abbrev dktX1_reducedCost_0 : List UInt8 := dkwX1_reducedCost_0 ++ dktX1_reducedCost_1
theorem dksX1_reducedCost_0 : cX1_reducedCost.data.toList.drop 0 = dktX1_reducedCost_0 := by decide +kernel
theorem dksX1_reducedCost_1 : cX1_reducedCost.data.toList.drop 24 = dktX1_reducedCost_1 := dk_seg dksX1_reducedCost_0 24 rfl rfl
theorem dksX1_reducedCost_2 : cX1_reducedCost.data.toList.drop 48 = dktX1_reducedCost_2 := dk_seg dksX1_reducedCost_1 24 rfl rfl
theorem dX1_reducedCost_0 : decode cX1_reducedCost 0 = .ok (.aload_n 0, 1) := dk_42 (dk_at dksX1_reducedCost_0 0 rfl rfl)
theorem dX1_reducedCost_1 : decode cX1_reducedCost 1 = .ok (.iload_n 1, 1) := dk_27 (dk_at dksX1_reducedCost_0 1 rfl rfl)
theorem dX1_reducedCost_2 : decode cX1_reducedCost 2 = .ok (.invokevirtual 169, 3) := dk_182 0 169 (dk_at dksX1_reducedCost_0 2 rfl rfl)
theorem dX1_reducedCost_5 : decode cX1_reducedCost 5 = .ok (.ifCond .eq 15, 3) := dk_153 0 15 (dk_at dksX1_reducedCost_0 5 rfl rfl)
theorem dX1_reducedCost_8 : decode cX1_reducedCost 8 = .ok (.aload_n 0, 1) := dk_42 (dk_at dksX1_reducedCost_0 8 rfl rfl)
theorem dX1_reducedCost_9 : decode cX1_reducedCost 9 = .ok (.iload_n 2, 1) := dk_28 (dk_at dksX1_reducedCost_0 9 rfl rfl)
theorem dX1_reducedCost_10 : decode cX1_reducedCost 10 = .ok (.invokevirtual 169, 3) := dk_182 0 169 (dk_at dksX1_reducedCost_0 10 rfl rfl)
theorem dX1_reducedCost_13 : decode cX1_reducedCost 13 = .ok (.ifCond .eq 7, 3) := dk_153 0 7 (dk_at dksX1_reducedCost_0 13 rfl rfl)
theorem dX1_reducedCost_16 : decode cX1_reducedCost 16 = .ok (.iconst 1, 1) := dk_4 (dk_at dksX1_reducedCost_0 16 rfl rfl)
theorem dX1_reducedCost_17 : decode cX1_reducedCost 17 = .ok (.goto 4, 3) := dk_167 0 4 (dk_at dksX1_reducedCost_0 17 rfl rfl)
theorem dX1_reducedCost_20 : decode cX1_reducedCost 20 = .ok (.iconst 0, 1) := dk_3 (dk_at dksX1_reducedCost_0 20 rfl rfl)
theorem dX1_reducedCost_21 : decode cX1_reducedCost 21 = .ok (.invokestatic 176, 3) := dk_184 0 176 (dk_at dksX1_reducedCost_0 21 rfl rfl)
theorem dX1_reducedCost_24 : decode cX1_reducedCost 24 = .ok (.aload_n 0, 1) := dk_42 (dk_at dksX1_reducedCost_1 0 rfl rfl)
theorem dX1_reducedCost_25 : decode cX1_reducedCost 25 = .ok (.invokevirtual 295, 3) := dk_182 1 39 (dk_at dksX1_reducedCost_1 1 rfl rfl)
theorem dX1_reducedCost_28 : decode cX1_reducedCost 28 = .ok (.pop, 1) := dk_87 (dk_at dksX1_reducedCost_1 4 rfl rfl)
theorem dX1_reducedCost_29 : decode cX1_reducedCost 29 = .ok (.aload_n 0, 1) := dk_42 (dk_at dksX1_reducedCost_1 5 rfl rfl)
theorem dX1_reducedCost_30 : decode cX1_reducedCost 30 = .ok (.iload_n 1, 1) := dk_27 (dk_at dksX1_reducedCost_1 6 rfl rfl)
theorem dX1_reducedCost_31 : decode cX1_reducedCost 31 = .ok (.iload_n 2, 1) := dk_28 (dk_at dksX1_reducedCost_1 7 rfl rfl)
theorem dX1_reducedCost_32 : decode cX1_reducedCost 32 = .ok (.invokevirtual 204, 3) := dk_182 0 204 (dk_at dksX1_reducedCost_1 8 rfl rfl)
theorem dX1_reducedCost_35 : decode cX1_reducedCost 35 = .ok (.aload_n 0, 1) := dk_42 (dk_at dksX1_reducedCost_1 11 rfl rfl)
theorem dX1_reducedCost_36 : decode cX1_reducedCost 36 = .ok (.getfield 76, 3) := dk_180 0 76 (dk_at dksX1_reducedCost_1 12 rfl rfl)
theorem dX1_reducedCost_39 : decode cX1_reducedCost 39 = .ok (.iload_n 1, 1) := dk_27 (dk_at dksX1_reducedCost_1 15 rfl rfl)
theorem dX1_reducedCost_40 : decode cX1_reducedCost 40 = .ok (.iaload, 1) := dk_46 (dk_at dksX1_reducedCost_1 16 rfl rfl)
theorem dX1_reducedCost_41 : decode cX1_reducedCost 41 = .ok (.isub, 1) := dk_100 (dk_at dksX1_reducedCost_1 17 rfl rfl)
theorem dX1_reducedCost_42 : decode cX1_reducedCost 42 = .ok (.aload_n 0, 1) := dk_42 (dk_at dksX1_reducedCost_1 18 rfl rfl)
theorem dX1_reducedCost_43 : decode cX1_reducedCost 43 = .ok (.getfield 79, 3) := dk_180 0 79 (dk_at dksX1_reducedCost_1 19 rfl rfl)
theorem dX1_reducedCost_46 : decode cX1_reducedCost 46 = .ok (.iload_n 2, 1) := dk_28 (dk_at dksX1_reducedCost_1 22 rfl rfl)
theorem dX1_reducedCost_47 : decode cX1_reducedCost 47 = .ok (.iaload, 1) := dk_46 (dk_at dksX1_reducedCost_1 23 rfl rfl)
theorem dX1_reducedCost_48 : decode cX1_reducedCost 48 = .ok (.isub, 1) := dk_100 (dk_at dksX1_reducedCost_2 0 rfl rfl)
theorem dX1_reducedCost_49 : decode cX1_reducedCost 49 = .ok (.ireturn, 1) := dk_172 (dk_at dksX1_reducedCost_2 1 rfl rfl)
abbrev cX1_minimumIfCost : ByteArray := prog_1_method_57_code
def yX1_minimumIfCost : MethodName := ⟨RX1, "minimumIfCost", "(III)I"⟩
def dkwX1_minimumIfCost_2 : List UInt8 := [184, 0, 162, 42, 182, 1, 28, 42, 180, 0, 35, 27, 50, 28, 29, 79, 42, 182, 1, 30, 172]
abbrev dktX1_minimumIfCost_2 : List UInt8 := dkwX1_minimumIfCost_2 ++ []
def dkwX1_minimumIfCost_1 : List UInt8 := [29, 133, 9, 20, 0, 179, 184, 0, 127, 154, 0, 10, 29, 17, 3, 232, 160, 0, 7, 4, 167, 0, 4, 3]
abbrev dktX1_minimumIfCost_1 : List UInt8 := dkwX1_minimumIfCost_1 ++ dktX1_minimumIfCost_2
def dkwX1_minimumIfCost_0 : List UInt8 := [42, 27, 182, 0, 169, 153, 0, 15, 42, 28, 182, 0, 173, 153, 0, 7, 4, 167, 0, 4, 3, 184, 0, 176]
abbrev dktX1_minimumIfCost_0 : List UInt8 := dkwX1_minimumIfCost_0 ++ dktX1_minimumIfCost_1
theorem dksX1_minimumIfCost_0 : cX1_minimumIfCost.data.toList.drop 0 = dktX1_minimumIfCost_0 := by decide +kernel
theorem dksX1_minimumIfCost_1 : cX1_minimumIfCost.data.toList.drop 24 = dktX1_minimumIfCost_1 := dk_seg dksX1_minimumIfCost_0 24 rfl rfl
theorem dksX1_minimumIfCost_2 : cX1_minimumIfCost.data.toList.drop 48 = dktX1_minimumIfCost_2 := dk_seg dksX1_minimumIfCost_1 24 rfl rfl
theorem dX1_minimumIfCost_0 : decode cX1_minimumIfCost 0 = .ok (.aload_n 0, 1) := dk_42 (dk_at dksX1_minimumIfCost_0 0 rfl rfl)
theorem dX1_minimumIfCost_1 : decode cX1_minimumIfCost 1 = .ok (.iload_n 1, 1) := dk_27 (dk_at dksX1_minimumIfCost_0 1 rfl rfl)
theorem dX1_minimumIfCost_2 : decode cX1_minimumIfCost 2 = .ok (.invokevirtual 169, 3) := dk_182 0 169 (dk_at dksX1_minimumIfCost_0 2 rfl rfl)
theorem dX1_minimumIfCost_5 : decode cX1_minimumIfCost 5 = .ok (.ifCond .eq 15, 3) := dk_153 0 15 (dk_at dksX1_minimumIfCost_0 5 rfl rfl)
theorem dX1_minimumIfCost_8 : decode cX1_minimumIfCost 8 = .ok (.aload_n 0, 1) := dk_42 (dk_at dksX1_minimumIfCost_0 8 rfl rfl)
theorem dX1_minimumIfCost_9 : decode cX1_minimumIfCost 9 = .ok (.iload_n 2, 1) := dk_28 (dk_at dksX1_minimumIfCost_0 9 rfl rfl)
theorem dX1_minimumIfCost_10 : decode cX1_minimumIfCost 10 = .ok (.invokevirtual 173, 3) := dk_182 0 173 (dk_at dksX1_minimumIfCost_0 10 rfl rfl)
theorem dX1_minimumIfCost_13 : decode cX1_minimumIfCost 13 = .ok (.ifCond .eq 7, 3) := dk_153 0 7 (dk_at dksX1_minimumIfCost_0 13 rfl rfl)
theorem dX1_minimumIfCost_16 : decode cX1_minimumIfCost 16 = .ok (.iconst 1, 1) := dk_4 (dk_at dksX1_minimumIfCost_0 16 rfl rfl)
theorem dX1_minimumIfCost_17 : decode cX1_minimumIfCost 17 = .ok (.goto 4, 3) := dk_167 0 4 (dk_at dksX1_minimumIfCost_0 17 rfl rfl)
theorem dX1_minimumIfCost_20 : decode cX1_minimumIfCost 20 = .ok (.iconst 0, 1) := dk_3 (dk_at dksX1_minimumIfCost_0 20 rfl rfl)
theorem dX1_minimumIfCost_21 : decode cX1_minimumIfCost 21 = .ok (.invokestatic 176, 3) := dk_184 0 176 (dk_at dksX1_minimumIfCost_0 21 rfl rfl)
theorem dX1_minimumIfCost_24 : decode cX1_minimumIfCost 24 = .ok (.iload_n 3, 1) := dk_29 (dk_at dksX1_minimumIfCost_1 0 rfl rfl)
theorem dX1_minimumIfCost_25 : decode cX1_minimumIfCost 25 = .ok (.i2l, 1) := dk_133 (dk_at dksX1_minimumIfCost_1 1 rfl rfl)
theorem dX1_minimumIfCost_26 : decode cX1_minimumIfCost 26 = .ok (.lconst 0, 1) := dk_9 (dk_at dksX1_minimumIfCost_1 2 rfl rfl)
theorem dX1_minimumIfCost_27 : decode cX1_minimumIfCost 27 = .ok (.ldc2_w 179, 3) := dk_20 0 179 (dk_at dksX1_minimumIfCost_1 3 rfl rfl)
theorem dX1_minimumIfCost_30 : decode cX1_minimumIfCost 30 = .ok (.invokestatic 127, 3) := dk_184 0 127 (dk_at dksX1_minimumIfCost_1 6 rfl rfl)
theorem dX1_minimumIfCost_33 : decode cX1_minimumIfCost 33 = .ok (.ifCond .ne 10, 3) := dk_154 0 10 (dk_at dksX1_minimumIfCost_1 9 rfl rfl)
theorem dX1_minimumIfCost_36 : decode cX1_minimumIfCost 36 = .ok (.iload_n 3, 1) := dk_29 (dk_at dksX1_minimumIfCost_1 12 rfl rfl)
theorem dX1_minimumIfCost_37 : decode cX1_minimumIfCost 37 = .ok (.sipush 1000, 3) := dk_17 3 232 (dk_at dksX1_minimumIfCost_1 13 rfl rfl)
theorem dX1_minimumIfCost_40 : decode cX1_minimumIfCost 40 = .ok (.if_icmp .ne 7, 3) := dk_160 0 7 (dk_at dksX1_minimumIfCost_1 16 rfl rfl)
theorem dX1_minimumIfCost_43 : decode cX1_minimumIfCost 43 = .ok (.iconst 1, 1) := dk_4 (dk_at dksX1_minimumIfCost_1 19 rfl rfl)
theorem dX1_minimumIfCost_44 : decode cX1_minimumIfCost 44 = .ok (.goto 4, 3) := dk_167 0 4 (dk_at dksX1_minimumIfCost_1 20 rfl rfl)
theorem dX1_minimumIfCost_47 : decode cX1_minimumIfCost 47 = .ok (.iconst 0, 1) := dk_3 (dk_at dksX1_minimumIfCost_1 23 rfl rfl)
theorem dX1_minimumIfCost_48 : decode cX1_minimumIfCost 48 = .ok (.invokestatic 162, 3) := dk_184 0 162 (dk_at dksX1_minimumIfCost_2 0 rfl rfl)
theorem dX1_minimumIfCost_51 : decode cX1_minimumIfCost 51 = .ok (.aload_n 0, 1) := dk_42 (dk_at dksX1_minimumIfCost_2 3 rfl rfl)
theorem dX1_minimumIfCost_52 : decode cX1_minimumIfCost 52 = .ok (.invokevirtual 284, 3) := dk_182 1 28 (dk_at dksX1_minimumIfCost_2 4 rfl rfl)
theorem dX1_minimumIfCost_55 : decode cX1_minimumIfCost 55 = .ok (.aload_n 0, 1) := dk_42 (dk_at dksX1_minimumIfCost_2 7 rfl rfl)
theorem dX1_minimumIfCost_56 : decode cX1_minimumIfCost 56 = .ok (.getfield 35, 3) := dk_180 0 35 (dk_at dksX1_minimumIfCost_2 8 rfl rfl)
theorem dX1_minimumIfCost_59 : decode cX1_minimumIfCost 59 = .ok (.iload_n 1, 1) := dk_27 (dk_at dksX1_minimumIfCost_2 11 rfl rfl)
theorem dX1_minimumIfCost_60 : decode cX1_minimumIfCost 60 = .ok (.aaload, 1) := dk_50 (dk_at dksX1_minimumIfCost_2 12 rfl rfl)
theorem dX1_minimumIfCost_61 : decode cX1_minimumIfCost 61 = .ok (.iload_n 2, 1) := dk_28 (dk_at dksX1_minimumIfCost_2 13 rfl rfl)
theorem dX1_minimumIfCost_62 : decode cX1_minimumIfCost 62 = .ok (.iload_n 3, 1) := dk_29 (dk_at dksX1_minimumIfCost_2 14 rfl rfl)
theorem dX1_minimumIfCost_63 : decode cX1_minimumIfCost 63 = .ok (.iastore, 1) := dk_79 (dk_at dksX1_minimumIfCost_2 15 rfl rfl)
theorem dX1_minimumIfCost_64 : decode cX1_minimumIfCost 64 = .ok (.aload_n 0, 1) := dk_42 (dk_at dksX1_minimumIfCost_2 16 rfl rfl)
theorem dX1_minimumIfCost_65 : decode cX1_minimumIfCost 65 = .ok (.invokevirtual 286, 3) := dk_182 1 30 (dk_at dksX1_minimumIfCost_2 17 rfl rfl)
theorem dX1_minimumIfCost_68 : decode cX1_minimumIfCost 68 = .ok (.ireturn, 1) := dk_172 (dk_at dksX1_minimumIfCost_2 20 rfl rfl)
abbrev cX1_fits : ByteArray := prog_1_method_63_code
def yX1_fits : MethodName := ⟨RX1, "fits", "(I)Z"⟩
def dkwX1_fits_0 : List UInt8 := [27, 133, 9, 20, 1, 52, 184, 0, 127, 184, 0, 162, 42, 27, 182, 1, 49, 172]
abbrev dktX1_fits_0 : List UInt8 := dkwX1_fits_0 ++ []
theorem dksX1_fits_0 : cX1_fits.data.toList.drop 0 = dktX1_fits_0 := by decide +kernel
theorem dX1_fits_0 : decode cX1_fits 0 = .ok (.iload_n 1, 1) := dk_27 (dk_at dksX1_fits_0 0 rfl rfl)
theorem dX1_fits_1 : decode cX1_fits 1 = .ok (.i2l, 1) := dk_133 (dk_at dksX1_fits_0 1 rfl rfl)
theorem dX1_fits_2 : decode cX1_fits 2 = .ok (.lconst 0, 1) := dk_9 (dk_at dksX1_fits_0 2 rfl rfl)
theorem dX1_fits_3 : decode cX1_fits 3 = .ok (.ldc2_w 308, 3) := dk_20 1 52 (dk_at dksX1_fits_0 3 rfl rfl)
theorem dX1_fits_6 : decode cX1_fits 6 = .ok (.invokestatic 127, 3) := dk_184 0 127 (dk_at dksX1_fits_0 6 rfl rfl)
theorem dX1_fits_9 : decode cX1_fits 9 = .ok (.invokestatic 162, 3) := dk_184 0 162 (dk_at dksX1_fits_0 9 rfl rfl)
theorem dX1_fits_12 : decode cX1_fits 12 = .ok (.aload_n 0, 1) := dk_42 (dk_at dksX1_fits_0 12 rfl rfl)
theorem dX1_fits_13 : decode cX1_fits 13 = .ok (.iload_n 1, 1) := dk_27 (dk_at dksX1_fits_0 13 rfl rfl)
theorem dX1_fits_14 : decode cX1_fits 14 = .ok (.invokevirtual 305, 3) := dk_182 1 49 (dk_at dksX1_fits_0 14 rfl rfl)
theorem dX1_fits_17 : decode cX1_fits 17 = .ok (.ireturn, 1) := dk_172 (dk_at dksX1_fits_0 17 rfl rfl)
abbrev cX1_countWithin : ByteArray := prog_1_method_65_code
def yX1_countWithin : MethodName := ⟨RX1, "countWithin", "(I)I"⟩
def dkwX1_countWithin_0 : List UInt8 := [27, 133, 9, 20, 1, 58, 184, 0, 127, 184, 0, 162, 42, 182, 1, 28, 42, 3, 3, 27, 182, 1, 54, 172]
abbrev dktX1_countWithin_0 : List UInt8 := dkwX1_countWithin_0 ++ []
theorem dksX1_countWithin_0 : cX1_countWithin.data.toList.drop 0 = dktX1_countWithin_0 := by decide +kernel
theorem dX1_countWithin_0 : decode cX1_countWithin 0 = .ok (.iload_n 1, 1) := dk_27 (dk_at dksX1_countWithin_0 0 rfl rfl)
theorem dX1_countWithin_1 : decode cX1_countWithin 1 = .ok (.i2l, 1) := dk_133 (dk_at dksX1_countWithin_0 1 rfl rfl)
theorem dX1_countWithin_2 : decode cX1_countWithin 2 = .ok (.lconst 0, 1) := dk_9 (dk_at dksX1_countWithin_0 2 rfl rfl)
theorem dX1_countWithin_3 : decode cX1_countWithin 3 = .ok (.ldc2_w 314, 3) := dk_20 1 58 (dk_at dksX1_countWithin_0 3 rfl rfl)
theorem dX1_countWithin_6 : decode cX1_countWithin 6 = .ok (.invokestatic 127, 3) := dk_184 0 127 (dk_at dksX1_countWithin_0 6 rfl rfl)
theorem dX1_countWithin_9 : decode cX1_countWithin 9 = .ok (.invokestatic 162, 3) := dk_184 0 162 (dk_at dksX1_countWithin_0 9 rfl rfl)
theorem dX1_countWithin_12 : decode cX1_countWithin 12 = .ok (.aload_n 0, 1) := dk_42 (dk_at dksX1_countWithin_0 12 rfl rfl)
theorem dX1_countWithin_13 : decode cX1_countWithin 13 = .ok (.invokevirtual 284, 3) := dk_182 1 28 (dk_at dksX1_countWithin_0 13 rfl rfl)
theorem dX1_countWithin_16 : decode cX1_countWithin 16 = .ok (.aload_n 0, 1) := dk_42 (dk_at dksX1_countWithin_0 16 rfl rfl)
theorem dX1_countWithin_17 : decode cX1_countWithin 17 = .ok (.iconst 0, 1) := dk_3 (dk_at dksX1_countWithin_0 17 rfl rfl)
theorem dX1_countWithin_18 : decode cX1_countWithin 18 = .ok (.iconst 0, 1) := dk_3 (dk_at dksX1_countWithin_0 18 rfl rfl)
theorem dX1_countWithin_19 : decode cX1_countWithin 19 = .ok (.iload_n 1, 1) := dk_27 (dk_at dksX1_countWithin_0 19 rfl rfl)
theorem dX1_countWithin_20 : decode cX1_countWithin 20 = .ok (.invokevirtual 310, 3) := dk_182 1 54 (dk_at dksX1_countWithin_0 20 rfl rfl)
theorem dX1_countWithin_23 : decode cX1_countWithin 23 = .ok (.ireturn, 1) := dk_172 (dk_at dksX1_countWithin_0 23 rfl rfl)
abbrev cX1_countFrom : ByteArray := prog_1_method_64_code
def yX1_countFrom : MethodName := ⟨RX1, "countFrom", "(III)I"⟩
def dkwX1_countFrom_3 : List UInt8 := [46, 100, 182, 1, 54, 96, 54, 4, 132, 5, 1, 167, 255, 193, 21, 4, 172]
abbrev dktX1_countFrom_3 : List UInt8 := dkwX1_countFrom_3 ++ []
def dkwX1_countFrom_2 : List UInt8 := [163, 0, 32, 21, 4, 42, 27, 4, 96, 28, 4, 21, 5, 120, 128, 29, 42, 180, 0, 35, 27, 50, 21, 5]
abbrev dktX1_countFrom_2 : List UInt8 := dkwX1_countFrom_2 ++ dktX1_countFrom_3
def dkwX1_countFrom_1 : List UInt8 := [162, 0, 60, 28, 21, 5, 122, 4, 126, 154, 0, 45, 42, 180, 0, 35, 27, 50, 21, 5, 46, 29]
abbrev dktX1_countFrom_1 : List UInt8 := dkwX1_countFrom_1 ++ dktX1_countFrom_2
def dkwX1_countFrom_0 : List UInt8 := [27, 42, 180, 0, 7, 160, 0, 5, 4, 172, 3, 54, 4, 3, 54, 5, 21, 5, 42, 180, 0, 7]
abbrev dktX1_countFrom_0 : List UInt8 := dkwX1_countFrom_0 ++ dktX1_countFrom_1
theorem dksX1_countFrom_0 : cX1_countFrom.data.toList.drop 0 = dktX1_countFrom_0 := by decide +kernel
theorem dksX1_countFrom_1 : cX1_countFrom.data.toList.drop 22 = dktX1_countFrom_1 := dk_seg dksX1_countFrom_0 22 rfl rfl
theorem dksX1_countFrom_2 : cX1_countFrom.data.toList.drop 44 = dktX1_countFrom_2 := dk_seg dksX1_countFrom_1 22 rfl rfl
theorem dksX1_countFrom_3 : cX1_countFrom.data.toList.drop 68 = dktX1_countFrom_3 := dk_seg dksX1_countFrom_2 24 rfl rfl
theorem dX1_countFrom_0 : decode cX1_countFrom 0 = .ok (.iload_n 1, 1) := dk_27 (dk_at dksX1_countFrom_0 0 rfl rfl)
theorem dX1_countFrom_1 : decode cX1_countFrom 1 = .ok (.aload_n 0, 1) := dk_42 (dk_at dksX1_countFrom_0 1 rfl rfl)
theorem dX1_countFrom_2 : decode cX1_countFrom 2 = .ok (.getfield 7, 3) := dk_180 0 7 (dk_at dksX1_countFrom_0 2 rfl rfl)
theorem dX1_countFrom_5 : decode cX1_countFrom 5 = .ok (.if_icmp .ne 5, 3) := dk_160 0 5 (dk_at dksX1_countFrom_0 5 rfl rfl)
theorem dX1_countFrom_8 : decode cX1_countFrom 8 = .ok (.iconst 1, 1) := dk_4 (dk_at dksX1_countFrom_0 8 rfl rfl)
theorem dX1_countFrom_9 : decode cX1_countFrom 9 = .ok (.ireturn, 1) := dk_172 (dk_at dksX1_countFrom_0 9 rfl rfl)
theorem dX1_countFrom_10 : decode cX1_countFrom 10 = .ok (.iconst 0, 1) := dk_3 (dk_at dksX1_countFrom_0 10 rfl rfl)
theorem dX1_countFrom_11 : decode cX1_countFrom 11 = .ok (.istore 4, 2) := dk_54 4 (dk_at dksX1_countFrom_0 11 rfl rfl)
theorem dX1_countFrom_13 : decode cX1_countFrom 13 = .ok (.iconst 0, 1) := dk_3 (dk_at dksX1_countFrom_0 13 rfl rfl)
theorem dX1_countFrom_14 : decode cX1_countFrom 14 = .ok (.istore 5, 2) := dk_54 5 (dk_at dksX1_countFrom_0 14 rfl rfl)
theorem dX1_countFrom_16 : decode cX1_countFrom 16 = .ok (.iload 5, 2) := dk_21 5 (dk_at dksX1_countFrom_0 16 rfl rfl)
theorem dX1_countFrom_18 : decode cX1_countFrom 18 = .ok (.aload_n 0, 1) := dk_42 (dk_at dksX1_countFrom_0 18 rfl rfl)
theorem dX1_countFrom_19 : decode cX1_countFrom 19 = .ok (.getfield 7, 3) := dk_180 0 7 (dk_at dksX1_countFrom_0 19 rfl rfl)
theorem dX1_countFrom_22 : decode cX1_countFrom 22 = .ok (.if_icmp .ge 60, 3) := dk_162 0 60 (dk_at dksX1_countFrom_1 0 rfl rfl)
theorem dX1_countFrom_25 : decode cX1_countFrom 25 = .ok (.iload_n 2, 1) := dk_28 (dk_at dksX1_countFrom_1 3 rfl rfl)
theorem dX1_countFrom_26 : decode cX1_countFrom 26 = .ok (.iload 5, 2) := dk_21 5 (dk_at dksX1_countFrom_1 4 rfl rfl)
theorem dX1_countFrom_28 : decode cX1_countFrom 28 = .ok (.ishr, 1) := dk_122 (dk_at dksX1_countFrom_1 6 rfl rfl)
theorem dX1_countFrom_29 : decode cX1_countFrom 29 = .ok (.iconst 1, 1) := dk_4 (dk_at dksX1_countFrom_1 7 rfl rfl)
theorem dX1_countFrom_30 : decode cX1_countFrom 30 = .ok (.iand, 1) := dk_126 (dk_at dksX1_countFrom_1 8 rfl rfl)
theorem dX1_countFrom_31 : decode cX1_countFrom 31 = .ok (.ifCond .ne 45, 3) := dk_154 0 45 (dk_at dksX1_countFrom_1 9 rfl rfl)
theorem dX1_countFrom_34 : decode cX1_countFrom 34 = .ok (.aload_n 0, 1) := dk_42 (dk_at dksX1_countFrom_1 12 rfl rfl)
theorem dX1_countFrom_35 : decode cX1_countFrom 35 = .ok (.getfield 35, 3) := dk_180 0 35 (dk_at dksX1_countFrom_1 13 rfl rfl)
theorem dX1_countFrom_38 : decode cX1_countFrom 38 = .ok (.iload_n 1, 1) := dk_27 (dk_at dksX1_countFrom_1 16 rfl rfl)
theorem dX1_countFrom_39 : decode cX1_countFrom 39 = .ok (.aaload, 1) := dk_50 (dk_at dksX1_countFrom_1 17 rfl rfl)
theorem dX1_countFrom_40 : decode cX1_countFrom 40 = .ok (.iload 5, 2) := dk_21 5 (dk_at dksX1_countFrom_1 18 rfl rfl)
theorem dX1_countFrom_42 : decode cX1_countFrom 42 = .ok (.iaload, 1) := dk_46 (dk_at dksX1_countFrom_1 20 rfl rfl)
theorem dX1_countFrom_43 : decode cX1_countFrom 43 = .ok (.iload_n 3, 1) := dk_29 (dk_at dksX1_countFrom_1 21 rfl rfl)
theorem dX1_countFrom_44 : decode cX1_countFrom 44 = .ok (.if_icmp .gt 32, 3) := dk_163 0 32 (dk_at dksX1_countFrom_2 0 rfl rfl)
theorem dX1_countFrom_47 : decode cX1_countFrom 47 = .ok (.iload 4, 2) := dk_21 4 (dk_at dksX1_countFrom_2 3 rfl rfl)
theorem dX1_countFrom_49 : decode cX1_countFrom 49 = .ok (.aload_n 0, 1) := dk_42 (dk_at dksX1_countFrom_2 5 rfl rfl)
theorem dX1_countFrom_50 : decode cX1_countFrom 50 = .ok (.iload_n 1, 1) := dk_27 (dk_at dksX1_countFrom_2 6 rfl rfl)
theorem dX1_countFrom_51 : decode cX1_countFrom 51 = .ok (.iconst 1, 1) := dk_4 (dk_at dksX1_countFrom_2 7 rfl rfl)
theorem dX1_countFrom_52 : decode cX1_countFrom 52 = .ok (.iadd, 1) := dk_96 (dk_at dksX1_countFrom_2 8 rfl rfl)
theorem dX1_countFrom_53 : decode cX1_countFrom 53 = .ok (.iload_n 2, 1) := dk_28 (dk_at dksX1_countFrom_2 9 rfl rfl)
theorem dX1_countFrom_54 : decode cX1_countFrom 54 = .ok (.iconst 1, 1) := dk_4 (dk_at dksX1_countFrom_2 10 rfl rfl)
theorem dX1_countFrom_55 : decode cX1_countFrom 55 = .ok (.iload 5, 2) := dk_21 5 (dk_at dksX1_countFrom_2 11 rfl rfl)
theorem dX1_countFrom_57 : decode cX1_countFrom 57 = .ok (.ishl, 1) := dk_120 (dk_at dksX1_countFrom_2 13 rfl rfl)
theorem dX1_countFrom_58 : decode cX1_countFrom 58 = .ok (.ior, 1) := dk_128 (dk_at dksX1_countFrom_2 14 rfl rfl)
theorem dX1_countFrom_59 : decode cX1_countFrom 59 = .ok (.iload_n 3, 1) := dk_29 (dk_at dksX1_countFrom_2 15 rfl rfl)
theorem dX1_countFrom_60 : decode cX1_countFrom 60 = .ok (.aload_n 0, 1) := dk_42 (dk_at dksX1_countFrom_2 16 rfl rfl)
theorem dX1_countFrom_61 : decode cX1_countFrom 61 = .ok (.getfield 35, 3) := dk_180 0 35 (dk_at dksX1_countFrom_2 17 rfl rfl)
theorem dX1_countFrom_64 : decode cX1_countFrom 64 = .ok (.iload_n 1, 1) := dk_27 (dk_at dksX1_countFrom_2 20 rfl rfl)
theorem dX1_countFrom_65 : decode cX1_countFrom 65 = .ok (.aaload, 1) := dk_50 (dk_at dksX1_countFrom_2 21 rfl rfl)
theorem dX1_countFrom_66 : decode cX1_countFrom 66 = .ok (.iload 5, 2) := dk_21 5 (dk_at dksX1_countFrom_2 22 rfl rfl)
theorem dX1_countFrom_68 : decode cX1_countFrom 68 = .ok (.iaload, 1) := dk_46 (dk_at dksX1_countFrom_3 0 rfl rfl)
theorem dX1_countFrom_69 : decode cX1_countFrom 69 = .ok (.isub, 1) := dk_100 (dk_at dksX1_countFrom_3 1 rfl rfl)
theorem dX1_countFrom_70 : decode cX1_countFrom 70 = .ok (.invokevirtual 310, 3) := dk_182 1 54 (dk_at dksX1_countFrom_3 2 rfl rfl)
theorem dX1_countFrom_73 : decode cX1_countFrom 73 = .ok (.iadd, 1) := dk_96 (dk_at dksX1_countFrom_3 5 rfl rfl)
theorem dX1_countFrom_74 : decode cX1_countFrom 74 = .ok (.istore 4, 2) := dk_54 4 (dk_at dksX1_countFrom_3 6 rfl rfl)
theorem dX1_countFrom_76 : decode cX1_countFrom 76 = .ok (.iinc 5 1, 3) := dk_132 5 1 (dk_at dksX1_countFrom_3 8 rfl rfl)
theorem dX1_countFrom_79 : decode cX1_countFrom 79 = .ok (.goto (-63), 3) := dk_167 255 193 (dk_at dksX1_countFrom_3 11 rfl rfl)
theorem dX1_countFrom_82 : decode cX1_countFrom 82 = .ok (.iload 4, 2) := dk_21 4 (dk_at dksX1_countFrom_3 14 rfl rfl)
theorem dX1_countFrom_84 : decode cX1_countFrom 84 = .ok (.ireturn, 1) := dk_172 (dk_at dksX1_countFrom_3 16 rfl rfl)
abbrev cX1_sumOf : ByteArray := prog_1_method_66_code
def yX1_sumOf : MethodName := ⟨RX1, "sumOf", "(I)I"⟩
def dkwX1_sumOf_4 : List UInt8 := [167, 255, 189, 28, 154, 0, 7, 4, 167, 0, 4, 3, 184, 0, 162, 21, 4, 172]
abbrev dktX1_sumOf_4 : List UInt8 := dkwX1_sumOf_4 ++ []
def dkwX1_sumOf_3 : List UInt8 := [120, 128, 62, 21, 4, 42, 21, 5, 21, 6, 182, 0, 204, 96, 54, 4, 28, 16, 10, 108, 61, 132, 5, 255]
abbrev dktX1_sumOf_3 : List UInt8 := dkwX1_sumOf_3 ++ dktX1_sumOf_4
def dkwX1_sumOf_2 : List UInt8 := [153, 0, 16, 29, 21, 6, 122, 4, 126, 154, 0, 7, 4, 167, 0, 4, 3, 184, 0, 162, 29, 4, 21, 6]
abbrev dktX1_sumOf_2 : List UInt8 := dkwX1_sumOf_2 ++ dktX1_sumOf_3
def dkwX1_sumOf_1 : List UInt8 := [100, 54, 5, 21, 5, 155, 0, 68, 28, 16, 10, 112, 4, 100, 54, 6, 42, 21, 6, 182, 0, 169]
abbrev dktX1_sumOf_1 : List UInt8 := dkwX1_sumOf_1 ++ dktX1_sumOf_2
def dkwX1_sumOf_0 : List UInt8 := [27, 158, 0, 7, 4, 167, 0, 4, 3, 184, 0, 162, 27, 61, 3, 62, 3, 54, 4, 42, 180, 0, 7, 4]
abbrev dktX1_sumOf_0 : List UInt8 := dkwX1_sumOf_0 ++ dktX1_sumOf_1
theorem dksX1_sumOf_0 : cX1_sumOf.data.toList.drop 0 = dktX1_sumOf_0 := by decide +kernel
theorem dksX1_sumOf_1 : cX1_sumOf.data.toList.drop 24 = dktX1_sumOf_1 := dk_seg dksX1_sumOf_0 24 rfl rfl
theorem dksX1_sumOf_2 : cX1_sumOf.data.toList.drop 46 = dktX1_sumOf_2 := dk_seg dksX1_sumOf_1 22 rfl rfl
theorem dksX1_sumOf_3 : cX1_sumOf.data.toList.drop 70 = dktX1_sumOf_3 := dk_seg dksX1_sumOf_2 24 rfl rfl
theorem dksX1_sumOf_4 : cX1_sumOf.data.toList.drop 94 = dktX1_sumOf_4 := dk_seg dksX1_sumOf_3 24 rfl rfl
theorem dX1_sumOf_0 : decode cX1_sumOf 0 = .ok (.iload_n 1, 1) := dk_27 (dk_at dksX1_sumOf_0 0 rfl rfl)
theorem dX1_sumOf_1 : decode cX1_sumOf 1 = .ok (.ifCond .le 7, 3) := dk_158 0 7 (dk_at dksX1_sumOf_0 1 rfl rfl)
theorem dX1_sumOf_4 : decode cX1_sumOf 4 = .ok (.iconst 1, 1) := dk_4 (dk_at dksX1_sumOf_0 4 rfl rfl)
theorem dX1_sumOf_5 : decode cX1_sumOf 5 = .ok (.goto 4, 3) := dk_167 0 4 (dk_at dksX1_sumOf_0 5 rfl rfl)
theorem dX1_sumOf_8 : decode cX1_sumOf 8 = .ok (.iconst 0, 1) := dk_3 (dk_at dksX1_sumOf_0 8 rfl rfl)
theorem dX1_sumOf_9 : decode cX1_sumOf 9 = .ok (.invokestatic 162, 3) := dk_184 0 162 (dk_at dksX1_sumOf_0 9 rfl rfl)
theorem dX1_sumOf_12 : decode cX1_sumOf 12 = .ok (.iload_n 1, 1) := dk_27 (dk_at dksX1_sumOf_0 12 rfl rfl)
theorem dX1_sumOf_13 : decode cX1_sumOf 13 = .ok (.istore_n 2, 1) := dk_61 (dk_at dksX1_sumOf_0 13 rfl rfl)
theorem dX1_sumOf_14 : decode cX1_sumOf 14 = .ok (.iconst 0, 1) := dk_3 (dk_at dksX1_sumOf_0 14 rfl rfl)
theorem dX1_sumOf_15 : decode cX1_sumOf 15 = .ok (.istore_n 3, 1) := dk_62 (dk_at dksX1_sumOf_0 15 rfl rfl)
theorem dX1_sumOf_16 : decode cX1_sumOf 16 = .ok (.iconst 0, 1) := dk_3 (dk_at dksX1_sumOf_0 16 rfl rfl)
theorem dX1_sumOf_17 : decode cX1_sumOf 17 = .ok (.istore 4, 2) := dk_54 4 (dk_at dksX1_sumOf_0 17 rfl rfl)
theorem dX1_sumOf_19 : decode cX1_sumOf 19 = .ok (.aload_n 0, 1) := dk_42 (dk_at dksX1_sumOf_0 19 rfl rfl)
theorem dX1_sumOf_20 : decode cX1_sumOf 20 = .ok (.getfield 7, 3) := dk_180 0 7 (dk_at dksX1_sumOf_0 20 rfl rfl)
theorem dX1_sumOf_23 : decode cX1_sumOf 23 = .ok (.iconst 1, 1) := dk_4 (dk_at dksX1_sumOf_0 23 rfl rfl)
theorem dX1_sumOf_24 : decode cX1_sumOf 24 = .ok (.isub, 1) := dk_100 (dk_at dksX1_sumOf_1 0 rfl rfl)
theorem dX1_sumOf_25 : decode cX1_sumOf 25 = .ok (.istore 5, 2) := dk_54 5 (dk_at dksX1_sumOf_1 1 rfl rfl)
theorem dX1_sumOf_27 : decode cX1_sumOf 27 = .ok (.iload 5, 2) := dk_21 5 (dk_at dksX1_sumOf_1 3 rfl rfl)
theorem dX1_sumOf_29 : decode cX1_sumOf 29 = .ok (.ifCond .lt 68, 3) := dk_155 0 68 (dk_at dksX1_sumOf_1 5 rfl rfl)
theorem dX1_sumOf_32 : decode cX1_sumOf 32 = .ok (.iload_n 2, 1) := dk_28 (dk_at dksX1_sumOf_1 8 rfl rfl)
theorem dX1_sumOf_33 : decode cX1_sumOf 33 = .ok (.bipush 10, 2) := dk_16 10 (dk_at dksX1_sumOf_1 9 rfl rfl)
theorem dX1_sumOf_35 : decode cX1_sumOf 35 = .ok (.irem, 1) := dk_112 (dk_at dksX1_sumOf_1 11 rfl rfl)
theorem dX1_sumOf_36 : decode cX1_sumOf 36 = .ok (.iconst 1, 1) := dk_4 (dk_at dksX1_sumOf_1 12 rfl rfl)
theorem dX1_sumOf_37 : decode cX1_sumOf 37 = .ok (.isub, 1) := dk_100 (dk_at dksX1_sumOf_1 13 rfl rfl)
theorem dX1_sumOf_38 : decode cX1_sumOf 38 = .ok (.istore 6, 2) := dk_54 6 (dk_at dksX1_sumOf_1 14 rfl rfl)
theorem dX1_sumOf_40 : decode cX1_sumOf 40 = .ok (.aload_n 0, 1) := dk_42 (dk_at dksX1_sumOf_1 16 rfl rfl)
theorem dX1_sumOf_41 : decode cX1_sumOf 41 = .ok (.iload 6, 2) := dk_21 6 (dk_at dksX1_sumOf_1 17 rfl rfl)
theorem dX1_sumOf_43 : decode cX1_sumOf 43 = .ok (.invokevirtual 169, 3) := dk_182 0 169 (dk_at dksX1_sumOf_1 19 rfl rfl)
theorem dX1_sumOf_46 : decode cX1_sumOf 46 = .ok (.ifCond .eq 16, 3) := dk_153 0 16 (dk_at dksX1_sumOf_2 0 rfl rfl)
theorem dX1_sumOf_49 : decode cX1_sumOf 49 = .ok (.iload_n 3, 1) := dk_29 (dk_at dksX1_sumOf_2 3 rfl rfl)
theorem dX1_sumOf_50 : decode cX1_sumOf 50 = .ok (.iload 6, 2) := dk_21 6 (dk_at dksX1_sumOf_2 4 rfl rfl)
theorem dX1_sumOf_52 : decode cX1_sumOf 52 = .ok (.ishr, 1) := dk_122 (dk_at dksX1_sumOf_2 6 rfl rfl)
theorem dX1_sumOf_53 : decode cX1_sumOf 53 = .ok (.iconst 1, 1) := dk_4 (dk_at dksX1_sumOf_2 7 rfl rfl)
theorem dX1_sumOf_54 : decode cX1_sumOf 54 = .ok (.iand, 1) := dk_126 (dk_at dksX1_sumOf_2 8 rfl rfl)
theorem dX1_sumOf_55 : decode cX1_sumOf 55 = .ok (.ifCond .ne 7, 3) := dk_154 0 7 (dk_at dksX1_sumOf_2 9 rfl rfl)
theorem dX1_sumOf_58 : decode cX1_sumOf 58 = .ok (.iconst 1, 1) := dk_4 (dk_at dksX1_sumOf_2 12 rfl rfl)
theorem dX1_sumOf_59 : decode cX1_sumOf 59 = .ok (.goto 4, 3) := dk_167 0 4 (dk_at dksX1_sumOf_2 13 rfl rfl)
theorem dX1_sumOf_62 : decode cX1_sumOf 62 = .ok (.iconst 0, 1) := dk_3 (dk_at dksX1_sumOf_2 16 rfl rfl)
theorem dX1_sumOf_63 : decode cX1_sumOf 63 = .ok (.invokestatic 162, 3) := dk_184 0 162 (dk_at dksX1_sumOf_2 17 rfl rfl)
theorem dX1_sumOf_66 : decode cX1_sumOf 66 = .ok (.iload_n 3, 1) := dk_29 (dk_at dksX1_sumOf_2 20 rfl rfl)
theorem dX1_sumOf_67 : decode cX1_sumOf 67 = .ok (.iconst 1, 1) := dk_4 (dk_at dksX1_sumOf_2 21 rfl rfl)
theorem dX1_sumOf_68 : decode cX1_sumOf 68 = .ok (.iload 6, 2) := dk_21 6 (dk_at dksX1_sumOf_2 22 rfl rfl)
theorem dX1_sumOf_70 : decode cX1_sumOf 70 = .ok (.ishl, 1) := dk_120 (dk_at dksX1_sumOf_3 0 rfl rfl)
theorem dX1_sumOf_71 : decode cX1_sumOf 71 = .ok (.ior, 1) := dk_128 (dk_at dksX1_sumOf_3 1 rfl rfl)
theorem dX1_sumOf_72 : decode cX1_sumOf 72 = .ok (.istore_n 3, 1) := dk_62 (dk_at dksX1_sumOf_3 2 rfl rfl)
theorem dX1_sumOf_73 : decode cX1_sumOf 73 = .ok (.iload 4, 2) := dk_21 4 (dk_at dksX1_sumOf_3 3 rfl rfl)
theorem dX1_sumOf_75 : decode cX1_sumOf 75 = .ok (.aload_n 0, 1) := dk_42 (dk_at dksX1_sumOf_3 5 rfl rfl)
theorem dX1_sumOf_76 : decode cX1_sumOf 76 = .ok (.iload 5, 2) := dk_21 5 (dk_at dksX1_sumOf_3 6 rfl rfl)
theorem dX1_sumOf_78 : decode cX1_sumOf 78 = .ok (.iload 6, 2) := dk_21 6 (dk_at dksX1_sumOf_3 8 rfl rfl)
theorem dX1_sumOf_80 : decode cX1_sumOf 80 = .ok (.invokevirtual 204, 3) := dk_182 0 204 (dk_at dksX1_sumOf_3 10 rfl rfl)
theorem dX1_sumOf_83 : decode cX1_sumOf 83 = .ok (.iadd, 1) := dk_96 (dk_at dksX1_sumOf_3 13 rfl rfl)
theorem dX1_sumOf_84 : decode cX1_sumOf 84 = .ok (.istore 4, 2) := dk_54 4 (dk_at dksX1_sumOf_3 14 rfl rfl)
theorem dX1_sumOf_86 : decode cX1_sumOf 86 = .ok (.iload_n 2, 1) := dk_28 (dk_at dksX1_sumOf_3 16 rfl rfl)
theorem dX1_sumOf_87 : decode cX1_sumOf 87 = .ok (.bipush 10, 2) := dk_16 10 (dk_at dksX1_sumOf_3 17 rfl rfl)
theorem dX1_sumOf_89 : decode cX1_sumOf 89 = .ok (.idiv, 1) := dk_108 (dk_at dksX1_sumOf_3 19 rfl rfl)
theorem dX1_sumOf_90 : decode cX1_sumOf 90 = .ok (.istore_n 2, 1) := dk_61 (dk_at dksX1_sumOf_3 20 rfl rfl)
theorem dX1_sumOf_91 : decode cX1_sumOf 91 = .ok (.iinc 5 (-1), 3) := dk_132 5 255 (dk_at dksX1_sumOf_3 21 rfl rfl)
theorem dX1_sumOf_94 : decode cX1_sumOf 94 = .ok (.goto (-67), 3) := dk_167 255 189 (dk_at dksX1_sumOf_4 0 rfl rfl)
theorem dX1_sumOf_97 : decode cX1_sumOf 97 = .ok (.iload_n 2, 1) := dk_28 (dk_at dksX1_sumOf_4 3 rfl rfl)
theorem dX1_sumOf_98 : decode cX1_sumOf 98 = .ok (.ifCond .ne 7, 3) := dk_154 0 7 (dk_at dksX1_sumOf_4 4 rfl rfl)
theorem dX1_sumOf_101 : decode cX1_sumOf 101 = .ok (.iconst 1, 1) := dk_4 (dk_at dksX1_sumOf_4 7 rfl rfl)
theorem dX1_sumOf_102 : decode cX1_sumOf 102 = .ok (.goto 4, 3) := dk_167 0 4 (dk_at dksX1_sumOf_4 8 rfl rfl)
theorem dX1_sumOf_105 : decode cX1_sumOf 105 = .ok (.iconst 0, 1) := dk_3 (dk_at dksX1_sumOf_4 11 rfl rfl)
theorem dX1_sumOf_106 : decode cX1_sumOf 106 = .ok (.invokestatic 162, 3) := dk_184 0 162 (dk_at dksX1_sumOf_4 12 rfl rfl)
theorem dX1_sumOf_109 : decode cX1_sumOf 109 = .ok (.iload 4, 2) := dk_21 4 (dk_at dksX1_sumOf_4 15 rfl rfl)
theorem dX1_sumOf_111 : decode cX1_sumOf 111 = .ok (.ireturn, 1) := dk_172 (dk_at dksX1_sumOf_4 17 rfl rfl)
abbrev cX1_startEnumeration : ByteArray := prog_1_method_67_code
def yX1_startEnumeration : MethodName := ⟨RX1, "startEnumeration", "()I"⟩
def dkwX1_startEnumeration_4 : List UInt8 := [180, 0, 85, 187, 1, 63, 89, 3, 3, 3, 3, 183, 1, 65, 182, 0, 252, 87, 27, 172]
abbrev dktX1_startEnumeration_4 : List UInt8 := dkwX1_startEnumeration_4 ++ []
def dkwX1_startEnumeration_3 : List UInt8 := [132, 3, 1, 167, 255, 231, 132, 2, 1, 167, 255, 209, 42, 182, 0, 166, 42, 4, 181, 0, 147, 42]
abbrev dktX1_startEnumeration_3 : List UInt8 := dkwX1_startEnumeration_3 ++ dktX1_startEnumeration_4
def dkwX1_startEnumeration_2 : List UInt8 := [3, 62, 29, 42, 180, 0, 7, 162, 0, 23, 42, 180, 0, 88, 28, 50, 29, 42, 28, 29, 182, 1, 6, 79]
abbrev dktX1_startEnumeration_2 : List UInt8 := dkwX1_startEnumeration_2 ++ dktX1_startEnumeration_3
def dkwX1_startEnumeration_1 : List UInt8 := [182, 1, 30, 181, 1, 60, 4, 60, 3, 61, 28, 42, 180, 0, 7, 162, 0, 45, 27, 28, 4, 96, 104, 60]
abbrev dktX1_startEnumeration_1 : List UInt8 := dkwX1_startEnumeration_1 ++ dktX1_startEnumeration_2
def dkwX1_startEnumeration_0 : List UInt8 := [42, 180, 0, 7, 16, 7, 162, 0, 7, 4, 167, 0, 4, 3, 184, 0, 209, 42, 182, 1, 28, 42, 42]
abbrev dktX1_startEnumeration_0 : List UInt8 := dkwX1_startEnumeration_0 ++ dktX1_startEnumeration_1
theorem dksX1_startEnumeration_0 : cX1_startEnumeration.data.toList.drop 0 = dktX1_startEnumeration_0 := by decide +kernel
theorem dksX1_startEnumeration_1 : cX1_startEnumeration.data.toList.drop 23 = dktX1_startEnumeration_1 := dk_seg dksX1_startEnumeration_0 23 rfl rfl
theorem dksX1_startEnumeration_2 : cX1_startEnumeration.data.toList.drop 47 = dktX1_startEnumeration_2 := dk_seg dksX1_startEnumeration_1 24 rfl rfl
theorem dksX1_startEnumeration_3 : cX1_startEnumeration.data.toList.drop 71 = dktX1_startEnumeration_3 := dk_seg dksX1_startEnumeration_2 24 rfl rfl
theorem dksX1_startEnumeration_4 : cX1_startEnumeration.data.toList.drop 93 = dktX1_startEnumeration_4 := dk_seg dksX1_startEnumeration_3 22 rfl rfl
theorem dX1_startEnumeration_0 : decode cX1_startEnumeration 0 = .ok (.aload_n 0, 1) := dk_42 (dk_at dksX1_startEnumeration_0 0 rfl rfl)
theorem dX1_startEnumeration_1 : decode cX1_startEnumeration 1 = .ok (.getfield 7, 3) := dk_180 0 7 (dk_at dksX1_startEnumeration_0 1 rfl rfl)
theorem dX1_startEnumeration_4 : decode cX1_startEnumeration 4 = .ok (.bipush 7, 2) := dk_16 7 (dk_at dksX1_startEnumeration_0 4 rfl rfl)
theorem dX1_startEnumeration_6 : decode cX1_startEnumeration 6 = .ok (.if_icmp .ge 7, 3) := dk_162 0 7 (dk_at dksX1_startEnumeration_0 6 rfl rfl)
theorem dX1_startEnumeration_9 : decode cX1_startEnumeration 9 = .ok (.iconst 1, 1) := dk_4 (dk_at dksX1_startEnumeration_0 9 rfl rfl)
theorem dX1_startEnumeration_10 : decode cX1_startEnumeration 10 = .ok (.goto 4, 3) := dk_167 0 4 (dk_at dksX1_startEnumeration_0 10 rfl rfl)
theorem dX1_startEnumeration_13 : decode cX1_startEnumeration 13 = .ok (.iconst 0, 1) := dk_3 (dk_at dksX1_startEnumeration_0 13 rfl rfl)
theorem dX1_startEnumeration_14 : decode cX1_startEnumeration 14 = .ok (.invokestatic 209, 3) := dk_184 0 209 (dk_at dksX1_startEnumeration_0 14 rfl rfl)
theorem dX1_startEnumeration_17 : decode cX1_startEnumeration 17 = .ok (.aload_n 0, 1) := dk_42 (dk_at dksX1_startEnumeration_0 17 rfl rfl)
theorem dX1_startEnumeration_18 : decode cX1_startEnumeration 18 = .ok (.invokevirtual 284, 3) := dk_182 1 28 (dk_at dksX1_startEnumeration_0 18 rfl rfl)
theorem dX1_startEnumeration_21 : decode cX1_startEnumeration 21 = .ok (.aload_n 0, 1) := dk_42 (dk_at dksX1_startEnumeration_0 21 rfl rfl)
theorem dX1_startEnumeration_22 : decode cX1_startEnumeration 22 = .ok (.aload_n 0, 1) := dk_42 (dk_at dksX1_startEnumeration_0 22 rfl rfl)
theorem dX1_startEnumeration_23 : decode cX1_startEnumeration 23 = .ok (.invokevirtual 286, 3) := dk_182 1 30 (dk_at dksX1_startEnumeration_1 0 rfl rfl)
theorem dX1_startEnumeration_26 : decode cX1_startEnumeration 26 = .ok (.putfield 316, 3) := dk_181 1 60 (dk_at dksX1_startEnumeration_1 3 rfl rfl)
theorem dX1_startEnumeration_29 : decode cX1_startEnumeration 29 = .ok (.iconst 1, 1) := dk_4 (dk_at dksX1_startEnumeration_1 6 rfl rfl)
theorem dX1_startEnumeration_30 : decode cX1_startEnumeration 30 = .ok (.istore_n 1, 1) := dk_60 (dk_at dksX1_startEnumeration_1 7 rfl rfl)
theorem dX1_startEnumeration_31 : decode cX1_startEnumeration 31 = .ok (.iconst 0, 1) := dk_3 (dk_at dksX1_startEnumeration_1 8 rfl rfl)
theorem dX1_startEnumeration_32 : decode cX1_startEnumeration 32 = .ok (.istore_n 2, 1) := dk_61 (dk_at dksX1_startEnumeration_1 9 rfl rfl)
theorem dX1_startEnumeration_33 : decode cX1_startEnumeration 33 = .ok (.iload_n 2, 1) := dk_28 (dk_at dksX1_startEnumeration_1 10 rfl rfl)
theorem dX1_startEnumeration_34 : decode cX1_startEnumeration 34 = .ok (.aload_n 0, 1) := dk_42 (dk_at dksX1_startEnumeration_1 11 rfl rfl)
theorem dX1_startEnumeration_35 : decode cX1_startEnumeration 35 = .ok (.getfield 7, 3) := dk_180 0 7 (dk_at dksX1_startEnumeration_1 12 rfl rfl)
theorem dX1_startEnumeration_38 : decode cX1_startEnumeration 38 = .ok (.if_icmp .ge 45, 3) := dk_162 0 45 (dk_at dksX1_startEnumeration_1 15 rfl rfl)
theorem dX1_startEnumeration_41 : decode cX1_startEnumeration 41 = .ok (.iload_n 1, 1) := dk_27 (dk_at dksX1_startEnumeration_1 18 rfl rfl)
theorem dX1_startEnumeration_42 : decode cX1_startEnumeration 42 = .ok (.iload_n 2, 1) := dk_28 (dk_at dksX1_startEnumeration_1 19 rfl rfl)
theorem dX1_startEnumeration_43 : decode cX1_startEnumeration 43 = .ok (.iconst 1, 1) := dk_4 (dk_at dksX1_startEnumeration_1 20 rfl rfl)
theorem dX1_startEnumeration_44 : decode cX1_startEnumeration 44 = .ok (.iadd, 1) := dk_96 (dk_at dksX1_startEnumeration_1 21 rfl rfl)
theorem dX1_startEnumeration_45 : decode cX1_startEnumeration 45 = .ok (.imul, 1) := dk_104 (dk_at dksX1_startEnumeration_1 22 rfl rfl)
theorem dX1_startEnumeration_46 : decode cX1_startEnumeration 46 = .ok (.istore_n 1, 1) := dk_60 (dk_at dksX1_startEnumeration_1 23 rfl rfl)
theorem dX1_startEnumeration_47 : decode cX1_startEnumeration 47 = .ok (.iconst 0, 1) := dk_3 (dk_at dksX1_startEnumeration_2 0 rfl rfl)
theorem dX1_startEnumeration_48 : decode cX1_startEnumeration 48 = .ok (.istore_n 3, 1) := dk_62 (dk_at dksX1_startEnumeration_2 1 rfl rfl)
theorem dX1_startEnumeration_49 : decode cX1_startEnumeration 49 = .ok (.iload_n 3, 1) := dk_29 (dk_at dksX1_startEnumeration_2 2 rfl rfl)
theorem dX1_startEnumeration_50 : decode cX1_startEnumeration 50 = .ok (.aload_n 0, 1) := dk_42 (dk_at dksX1_startEnumeration_2 3 rfl rfl)
theorem dX1_startEnumeration_51 : decode cX1_startEnumeration 51 = .ok (.getfield 7, 3) := dk_180 0 7 (dk_at dksX1_startEnumeration_2 4 rfl rfl)
theorem dX1_startEnumeration_54 : decode cX1_startEnumeration 54 = .ok (.if_icmp .ge 23, 3) := dk_162 0 23 (dk_at dksX1_startEnumeration_2 7 rfl rfl)
theorem dX1_startEnumeration_57 : decode cX1_startEnumeration 57 = .ok (.aload_n 0, 1) := dk_42 (dk_at dksX1_startEnumeration_2 10 rfl rfl)
theorem dX1_startEnumeration_58 : decode cX1_startEnumeration 58 = .ok (.getfield 88, 3) := dk_180 0 88 (dk_at dksX1_startEnumeration_2 11 rfl rfl)
theorem dX1_startEnumeration_61 : decode cX1_startEnumeration 61 = .ok (.iload_n 2, 1) := dk_28 (dk_at dksX1_startEnumeration_2 14 rfl rfl)
theorem dX1_startEnumeration_62 : decode cX1_startEnumeration 62 = .ok (.aaload, 1) := dk_50 (dk_at dksX1_startEnumeration_2 15 rfl rfl)
theorem dX1_startEnumeration_63 : decode cX1_startEnumeration 63 = .ok (.iload_n 3, 1) := dk_29 (dk_at dksX1_startEnumeration_2 16 rfl rfl)
theorem dX1_startEnumeration_64 : decode cX1_startEnumeration 64 = .ok (.aload_n 0, 1) := dk_42 (dk_at dksX1_startEnumeration_2 17 rfl rfl)
theorem dX1_startEnumeration_65 : decode cX1_startEnumeration 65 = .ok (.iload_n 2, 1) := dk_28 (dk_at dksX1_startEnumeration_2 18 rfl rfl)
theorem dX1_startEnumeration_66 : decode cX1_startEnumeration 66 = .ok (.iload_n 3, 1) := dk_29 (dk_at dksX1_startEnumeration_2 19 rfl rfl)
theorem dX1_startEnumeration_67 : decode cX1_startEnumeration 67 = .ok (.invokevirtual 262, 3) := dk_182 1 6 (dk_at dksX1_startEnumeration_2 20 rfl rfl)
theorem dX1_startEnumeration_70 : decode cX1_startEnumeration 70 = .ok (.iastore, 1) := dk_79 (dk_at dksX1_startEnumeration_2 23 rfl rfl)
theorem dX1_startEnumeration_71 : decode cX1_startEnumeration 71 = .ok (.iinc 3 1, 3) := dk_132 3 1 (dk_at dksX1_startEnumeration_3 0 rfl rfl)
theorem dX1_startEnumeration_74 : decode cX1_startEnumeration 74 = .ok (.goto (-25), 3) := dk_167 255 231 (dk_at dksX1_startEnumeration_3 3 rfl rfl)
theorem dX1_startEnumeration_77 : decode cX1_startEnumeration 77 = .ok (.iinc 2 1, 3) := dk_132 2 1 (dk_at dksX1_startEnumeration_3 6 rfl rfl)
theorem dX1_startEnumeration_80 : decode cX1_startEnumeration 80 = .ok (.goto (-47), 3) := dk_167 255 209 (dk_at dksX1_startEnumeration_3 9 rfl rfl)
theorem dX1_startEnumeration_83 : decode cX1_startEnumeration 83 = .ok (.aload_n 0, 1) := dk_42 (dk_at dksX1_startEnumeration_3 12 rfl rfl)
theorem dX1_startEnumeration_84 : decode cX1_startEnumeration 84 = .ok (.invokevirtual 166, 3) := dk_182 0 166 (dk_at dksX1_startEnumeration_3 13 rfl rfl)
theorem dX1_startEnumeration_87 : decode cX1_startEnumeration 87 = .ok (.aload_n 0, 1) := dk_42 (dk_at dksX1_startEnumeration_3 16 rfl rfl)
theorem dX1_startEnumeration_88 : decode cX1_startEnumeration 88 = .ok (.iconst 1, 1) := dk_4 (dk_at dksX1_startEnumeration_3 17 rfl rfl)
theorem dX1_startEnumeration_89 : decode cX1_startEnumeration 89 = .ok (.putfield 147, 3) := dk_181 0 147 (dk_at dksX1_startEnumeration_3 18 rfl rfl)
theorem dX1_startEnumeration_92 : decode cX1_startEnumeration 92 = .ok (.aload_n 0, 1) := dk_42 (dk_at dksX1_startEnumeration_3 21 rfl rfl)
theorem dX1_startEnumeration_93 : decode cX1_startEnumeration 93 = .ok (.getfield 85, 3) := dk_180 0 85 (dk_at dksX1_startEnumeration_4 0 rfl rfl)
theorem dX1_startEnumeration_96 : decode cX1_startEnumeration 96 = .ok (.new 319, 3) := dk_187 1 63 (dk_at dksX1_startEnumeration_4 3 rfl rfl)
theorem dX1_startEnumeration_99 : decode cX1_startEnumeration 99 = .ok (.dup, 1) := dk_89 (dk_at dksX1_startEnumeration_4 6 rfl rfl)
theorem dX1_startEnumeration_100 : decode cX1_startEnumeration 100 = .ok (.iconst 0, 1) := dk_3 (dk_at dksX1_startEnumeration_4 7 rfl rfl)
theorem dX1_startEnumeration_101 : decode cX1_startEnumeration 101 = .ok (.iconst 0, 1) := dk_3 (dk_at dksX1_startEnumeration_4 8 rfl rfl)
theorem dX1_startEnumeration_102 : decode cX1_startEnumeration 102 = .ok (.iconst 0, 1) := dk_3 (dk_at dksX1_startEnumeration_4 9 rfl rfl)
theorem dX1_startEnumeration_103 : decode cX1_startEnumeration 103 = .ok (.iconst 0, 1) := dk_3 (dk_at dksX1_startEnumeration_4 10 rfl rfl)
theorem dX1_startEnumeration_104 : decode cX1_startEnumeration 104 = .ok (.invokespecial 321, 3) := dk_183 1 65 (dk_at dksX1_startEnumeration_4 11 rfl rfl)
theorem dX1_startEnumeration_107 : decode cX1_startEnumeration 107 = .ok (.invokevirtual 252, 3) := dk_182 0 252 (dk_at dksX1_startEnumeration_4 14 rfl rfl)
theorem dX1_startEnumeration_110 : decode cX1_startEnumeration 110 = .ok (.pop, 1) := dk_87 (dk_at dksX1_startEnumeration_4 17 rfl rfl)
theorem dX1_startEnumeration_111 : decode cX1_startEnumeration 111 = .ok (.iload_n 1, 1) := dk_27 (dk_at dksX1_startEnumeration_4 18 rfl rfl)
theorem dX1_startEnumeration_112 : decode cX1_startEnumeration 112 = .ok (.ireturn, 1) := dk_172 (dk_at dksX1_startEnumeration_4 19 rfl rfl)
abbrev cX1_nextSum : ByteArray := prog_1_method_69_code
def yX1_nextSum : MethodName := ⟨RX1, "nextSum", "()I"⟩
def dkwX1_nextSum_4 : List UInt8 := [180, 1, 60, 43, 180, 1, 71, 96, 172]
abbrev dktX1_nextSum_4 : List UInt8 := dkwX1_nextSum_4 ++ []
def dkwX1_nextSum_3 : List UInt8 := [192, 1, 63, 76, 42, 89, 180, 0, 151, 4, 96, 181, 0, 151, 42, 43, 180, 1, 77, 181, 0, 154, 42]
abbrev dktX1_nextSum_3 : List UInt8 := dkwX1_nextSum_3 ++ dktX1_nextSum_4
def dkwX1_nextSum_2 : List UInt8 := [180, 0, 85, 182, 1, 0, 192, 1, 63, 182, 1, 88, 167, 255, 222, 42, 180, 0, 85, 182, 1, 0]
abbrev dktX1_nextSum_2 : List UInt8 := dkwX1_nextSum_2 ++ dktX1_nextSum_3
def dkwX1_nextSum_1 : List UInt8 := [191, 42, 180, 0, 85, 182, 1, 85, 192, 1, 63, 180, 1, 74, 42, 180, 0, 7, 162, 0, 20, 42, 42]
abbrev dktX1_nextSum_1 : List UInt8 := dkwX1_nextSum_1 ++ dktX1_nextSum_2
def dkwX1_nextSum_0 : List UInt8 := [42, 180, 0, 147, 184, 0, 209, 42, 180, 0, 85, 182, 1, 80, 154, 0, 11, 187, 1, 82, 89, 183, 1, 84]
abbrev dktX1_nextSum_0 : List UInt8 := dkwX1_nextSum_0 ++ dktX1_nextSum_1
theorem dksX1_nextSum_0 : cX1_nextSum.data.toList.drop 0 = dktX1_nextSum_0 := by decide +kernel
theorem dksX1_nextSum_1 : cX1_nextSum.data.toList.drop 24 = dktX1_nextSum_1 := dk_seg dksX1_nextSum_0 24 rfl rfl
theorem dksX1_nextSum_2 : cX1_nextSum.data.toList.drop 47 = dktX1_nextSum_2 := dk_seg dksX1_nextSum_1 23 rfl rfl
theorem dksX1_nextSum_3 : cX1_nextSum.data.toList.drop 69 = dktX1_nextSum_3 := dk_seg dksX1_nextSum_2 22 rfl rfl
theorem dksX1_nextSum_4 : cX1_nextSum.data.toList.drop 92 = dktX1_nextSum_4 := dk_seg dksX1_nextSum_3 23 rfl rfl
theorem dX1_nextSum_0 : decode cX1_nextSum 0 = .ok (.aload_n 0, 1) := dk_42 (dk_at dksX1_nextSum_0 0 rfl rfl)
theorem dX1_nextSum_1 : decode cX1_nextSum 1 = .ok (.getfield 147, 3) := dk_180 0 147 (dk_at dksX1_nextSum_0 1 rfl rfl)
theorem dX1_nextSum_4 : decode cX1_nextSum 4 = .ok (.invokestatic 209, 3) := dk_184 0 209 (dk_at dksX1_nextSum_0 4 rfl rfl)
theorem dX1_nextSum_7 : decode cX1_nextSum 7 = .ok (.aload_n 0, 1) := dk_42 (dk_at dksX1_nextSum_0 7 rfl rfl)
theorem dX1_nextSum_8 : decode cX1_nextSum 8 = .ok (.getfield 85, 3) := dk_180 0 85 (dk_at dksX1_nextSum_0 8 rfl rfl)
theorem dX1_nextSum_11 : decode cX1_nextSum 11 = .ok (.invokevirtual 336, 3) := dk_182 1 80 (dk_at dksX1_nextSum_0 11 rfl rfl)
theorem dX1_nextSum_14 : decode cX1_nextSum 14 = .ok (.ifCond .ne 11, 3) := dk_154 0 11 (dk_at dksX1_nextSum_0 14 rfl rfl)
theorem dX1_nextSum_17 : decode cX1_nextSum 17 = .ok (.new 338, 3) := dk_187 1 82 (dk_at dksX1_nextSum_0 17 rfl rfl)
theorem dX1_nextSum_20 : decode cX1_nextSum 20 = .ok (.dup, 1) := dk_89 (dk_at dksX1_nextSum_0 20 rfl rfl)
theorem dX1_nextSum_21 : decode cX1_nextSum 21 = .ok (.invokespecial 340, 3) := dk_183 1 84 (dk_at dksX1_nextSum_0 21 rfl rfl)
theorem dX1_nextSum_24 : decode cX1_nextSum 24 = .ok (.athrow, 1) := dk_191 (dk_at dksX1_nextSum_1 0 rfl rfl)
theorem dX1_nextSum_25 : decode cX1_nextSum 25 = .ok (.aload_n 0, 1) := dk_42 (dk_at dksX1_nextSum_1 1 rfl rfl)
theorem dX1_nextSum_26 : decode cX1_nextSum 26 = .ok (.getfield 85, 3) := dk_180 0 85 (dk_at dksX1_nextSum_1 2 rfl rfl)
theorem dX1_nextSum_29 : decode cX1_nextSum 29 = .ok (.invokevirtual 341, 3) := dk_182 1 85 (dk_at dksX1_nextSum_1 5 rfl rfl)
theorem dX1_nextSum_32 : decode cX1_nextSum 32 = .ok (.checkcast 319, 3) := dk_192 1 63 (dk_at dksX1_nextSum_1 8 rfl rfl)
theorem dX1_nextSum_35 : decode cX1_nextSum 35 = .ok (.getfield 330, 3) := dk_180 1 74 (dk_at dksX1_nextSum_1 11 rfl rfl)
theorem dX1_nextSum_38 : decode cX1_nextSum 38 = .ok (.aload_n 0, 1) := dk_42 (dk_at dksX1_nextSum_1 14 rfl rfl)
theorem dX1_nextSum_39 : decode cX1_nextSum 39 = .ok (.getfield 7, 3) := dk_180 0 7 (dk_at dksX1_nextSum_1 15 rfl rfl)
theorem dX1_nextSum_42 : decode cX1_nextSum 42 = .ok (.if_icmp .ge 20, 3) := dk_162 0 20 (dk_at dksX1_nextSum_1 18 rfl rfl)
theorem dX1_nextSum_45 : decode cX1_nextSum 45 = .ok (.aload_n 0, 1) := dk_42 (dk_at dksX1_nextSum_1 21 rfl rfl)
theorem dX1_nextSum_46 : decode cX1_nextSum 46 = .ok (.aload_n 0, 1) := dk_42 (dk_at dksX1_nextSum_1 22 rfl rfl)
theorem dX1_nextSum_47 : decode cX1_nextSum 47 = .ok (.getfield 85, 3) := dk_180 0 85 (dk_at dksX1_nextSum_2 0 rfl rfl)
theorem dX1_nextSum_50 : decode cX1_nextSum 50 = .ok (.invokevirtual 256, 3) := dk_182 1 0 (dk_at dksX1_nextSum_2 3 rfl rfl)
theorem dX1_nextSum_53 : decode cX1_nextSum 53 = .ok (.checkcast 319, 3) := dk_192 1 63 (dk_at dksX1_nextSum_2 6 rfl rfl)
theorem dX1_nextSum_56 : decode cX1_nextSum 56 = .ok (.invokevirtual 344, 3) := dk_182 1 88 (dk_at dksX1_nextSum_2 9 rfl rfl)
theorem dX1_nextSum_59 : decode cX1_nextSum 59 = .ok (.goto (-34), 3) := dk_167 255 222 (dk_at dksX1_nextSum_2 12 rfl rfl)
theorem dX1_nextSum_62 : decode cX1_nextSum 62 = .ok (.aload_n 0, 1) := dk_42 (dk_at dksX1_nextSum_2 15 rfl rfl)
theorem dX1_nextSum_63 : decode cX1_nextSum 63 = .ok (.getfield 85, 3) := dk_180 0 85 (dk_at dksX1_nextSum_2 16 rfl rfl)
theorem dX1_nextSum_66 : decode cX1_nextSum 66 = .ok (.invokevirtual 256, 3) := dk_182 1 0 (dk_at dksX1_nextSum_2 19 rfl rfl)
theorem dX1_nextSum_69 : decode cX1_nextSum 69 = .ok (.checkcast 319, 3) := dk_192 1 63 (dk_at dksX1_nextSum_3 0 rfl rfl)
theorem dX1_nextSum_72 : decode cX1_nextSum 72 = .ok (.astore_n 1, 1) := dk_76 (dk_at dksX1_nextSum_3 3 rfl rfl)
theorem dX1_nextSum_73 : decode cX1_nextSum 73 = .ok (.aload_n 0, 1) := dk_42 (dk_at dksX1_nextSum_3 4 rfl rfl)
theorem dX1_nextSum_74 : decode cX1_nextSum 74 = .ok (.dup, 1) := dk_89 (dk_at dksX1_nextSum_3 5 rfl rfl)
theorem dX1_nextSum_75 : decode cX1_nextSum 75 = .ok (.getfield 151, 3) := dk_180 0 151 (dk_at dksX1_nextSum_3 6 rfl rfl)
theorem dX1_nextSum_78 : decode cX1_nextSum 78 = .ok (.iconst 1, 1) := dk_4 (dk_at dksX1_nextSum_3 9 rfl rfl)
theorem dX1_nextSum_79 : decode cX1_nextSum 79 = .ok (.iadd, 1) := dk_96 (dk_at dksX1_nextSum_3 10 rfl rfl)
theorem dX1_nextSum_80 : decode cX1_nextSum 80 = .ok (.putfield 151, 3) := dk_181 0 151 (dk_at dksX1_nextSum_3 11 rfl rfl)
theorem dX1_nextSum_83 : decode cX1_nextSum 83 = .ok (.aload_n 0, 1) := dk_42 (dk_at dksX1_nextSum_3 14 rfl rfl)
theorem dX1_nextSum_84 : decode cX1_nextSum 84 = .ok (.aload_n 1, 1) := dk_43 (dk_at dksX1_nextSum_3 15 rfl rfl)
theorem dX1_nextSum_85 : decode cX1_nextSum 85 = .ok (.getfield 333, 3) := dk_180 1 77 (dk_at dksX1_nextSum_3 16 rfl rfl)
theorem dX1_nextSum_88 : decode cX1_nextSum 88 = .ok (.putfield 154, 3) := dk_181 0 154 (dk_at dksX1_nextSum_3 19 rfl rfl)
theorem dX1_nextSum_91 : decode cX1_nextSum 91 = .ok (.aload_n 0, 1) := dk_42 (dk_at dksX1_nextSum_3 22 rfl rfl)
theorem dX1_nextSum_92 : decode cX1_nextSum 92 = .ok (.getfield 316, 3) := dk_180 1 60 (dk_at dksX1_nextSum_4 0 rfl rfl)
theorem dX1_nextSum_95 : decode cX1_nextSum 95 = .ok (.aload_n 1, 1) := dk_43 (dk_at dksX1_nextSum_4 3 rfl rfl)
theorem dX1_nextSum_96 : decode cX1_nextSum 96 = .ok (.getfield 327, 3) := dk_180 1 71 (dk_at dksX1_nextSum_4 4 rfl rfl)
theorem dX1_nextSum_99 : decode cX1_nextSum 99 = .ok (.iadd, 1) := dk_96 (dk_at dksX1_nextSum_4 7 rfl rfl)
theorem dX1_nextSum_100 : decode cX1_nextSum 100 = .ok (.ireturn, 1) := dk_172 (dk_at dksX1_nextSum_4 8 rfl rfl)
abbrev cX1_goOn : ByteArray := prog_1_method_68_code
def yX1_goOn : MethodName := ⟨RX1, "goOn", "(LChoreAssignment$Part;)V"⟩
def dkwX1_goOn_3 : List UInt8 := [183, 1, 65, 182, 0, 252, 87, 132, 2, 1, 167, 255, 178, 177]
abbrev dktX1_goOn_3 : List UInt8 := dkwX1_goOn_3 ++ []
def dkwX1_goOn_2 : List UInt8 := [180, 1, 74, 4, 96, 16, 10, 43, 180, 1, 77, 104, 28, 96, 4, 96, 43, 180, 1, 68, 4, 28, 120, 128]
abbrev dktX1_goOn_2 : List UInt8 := dkwX1_goOn_2 ++ dktX1_goOn_3
def dkwX1_goOn_1 : List UInt8 := [180, 0, 85, 187, 1, 63, 89, 43, 180, 1, 71, 42, 180, 0, 88, 43, 180, 1, 74, 50, 28, 46, 96, 43]
abbrev dktX1_goOn_1 : List UInt8 := dkwX1_goOn_1 ++ dktX1_goOn_2
def dkwX1_goOn_0 : List UInt8 := [3, 61, 28, 42, 180, 0, 7, 162, 0, 76, 43, 180, 1, 68, 28, 122, 4, 126, 154, 0, 59, 42]
abbrev dktX1_goOn_0 : List UInt8 := dkwX1_goOn_0 ++ dktX1_goOn_1
theorem dksX1_goOn_0 : cX1_goOn.data.toList.drop 0 = dktX1_goOn_0 := by decide +kernel
theorem dksX1_goOn_1 : cX1_goOn.data.toList.drop 22 = dktX1_goOn_1 := dk_seg dksX1_goOn_0 22 rfl rfl
theorem dksX1_goOn_2 : cX1_goOn.data.toList.drop 46 = dktX1_goOn_2 := dk_seg dksX1_goOn_1 24 rfl rfl
theorem dksX1_goOn_3 : cX1_goOn.data.toList.drop 70 = dktX1_goOn_3 := dk_seg dksX1_goOn_2 24 rfl rfl
theorem dX1_goOn_0 : decode cX1_goOn 0 = .ok (.iconst 0, 1) := dk_3 (dk_at dksX1_goOn_0 0 rfl rfl)
theorem dX1_goOn_1 : decode cX1_goOn 1 = .ok (.istore_n 2, 1) := dk_61 (dk_at dksX1_goOn_0 1 rfl rfl)
theorem dX1_goOn_2 : decode cX1_goOn 2 = .ok (.iload_n 2, 1) := dk_28 (dk_at dksX1_goOn_0 2 rfl rfl)
theorem dX1_goOn_3 : decode cX1_goOn 3 = .ok (.aload_n 0, 1) := dk_42 (dk_at dksX1_goOn_0 3 rfl rfl)
theorem dX1_goOn_4 : decode cX1_goOn 4 = .ok (.getfield 7, 3) := dk_180 0 7 (dk_at dksX1_goOn_0 4 rfl rfl)
theorem dX1_goOn_7 : decode cX1_goOn 7 = .ok (.if_icmp .ge 76, 3) := dk_162 0 76 (dk_at dksX1_goOn_0 7 rfl rfl)
theorem dX1_goOn_10 : decode cX1_goOn 10 = .ok (.aload_n 1, 1) := dk_43 (dk_at dksX1_goOn_0 10 rfl rfl)
theorem dX1_goOn_11 : decode cX1_goOn 11 = .ok (.getfield 324, 3) := dk_180 1 68 (dk_at dksX1_goOn_0 11 rfl rfl)
theorem dX1_goOn_14 : decode cX1_goOn 14 = .ok (.iload_n 2, 1) := dk_28 (dk_at dksX1_goOn_0 14 rfl rfl)
theorem dX1_goOn_15 : decode cX1_goOn 15 = .ok (.ishr, 1) := dk_122 (dk_at dksX1_goOn_0 15 rfl rfl)
theorem dX1_goOn_16 : decode cX1_goOn 16 = .ok (.iconst 1, 1) := dk_4 (dk_at dksX1_goOn_0 16 rfl rfl)
theorem dX1_goOn_17 : decode cX1_goOn 17 = .ok (.iand, 1) := dk_126 (dk_at dksX1_goOn_0 17 rfl rfl)
theorem dX1_goOn_18 : decode cX1_goOn 18 = .ok (.ifCond .ne 59, 3) := dk_154 0 59 (dk_at dksX1_goOn_0 18 rfl rfl)
theorem dX1_goOn_21 : decode cX1_goOn 21 = .ok (.aload_n 0, 1) := dk_42 (dk_at dksX1_goOn_0 21 rfl rfl)
theorem dX1_goOn_22 : decode cX1_goOn 22 = .ok (.getfield 85, 3) := dk_180 0 85 (dk_at dksX1_goOn_1 0 rfl rfl)
theorem dX1_goOn_25 : decode cX1_goOn 25 = .ok (.new 319, 3) := dk_187 1 63 (dk_at dksX1_goOn_1 3 rfl rfl)
theorem dX1_goOn_28 : decode cX1_goOn 28 = .ok (.dup, 1) := dk_89 (dk_at dksX1_goOn_1 6 rfl rfl)
theorem dX1_goOn_29 : decode cX1_goOn 29 = .ok (.aload_n 1, 1) := dk_43 (dk_at dksX1_goOn_1 7 rfl rfl)
theorem dX1_goOn_30 : decode cX1_goOn 30 = .ok (.getfield 327, 3) := dk_180 1 71 (dk_at dksX1_goOn_1 8 rfl rfl)
theorem dX1_goOn_33 : decode cX1_goOn 33 = .ok (.aload_n 0, 1) := dk_42 (dk_at dksX1_goOn_1 11 rfl rfl)
theorem dX1_goOn_34 : decode cX1_goOn 34 = .ok (.getfield 88, 3) := dk_180 0 88 (dk_at dksX1_goOn_1 12 rfl rfl)
theorem dX1_goOn_37 : decode cX1_goOn 37 = .ok (.aload_n 1, 1) := dk_43 (dk_at dksX1_goOn_1 15 rfl rfl)
theorem dX1_goOn_38 : decode cX1_goOn 38 = .ok (.getfield 330, 3) := dk_180 1 74 (dk_at dksX1_goOn_1 16 rfl rfl)
theorem dX1_goOn_41 : decode cX1_goOn 41 = .ok (.aaload, 1) := dk_50 (dk_at dksX1_goOn_1 19 rfl rfl)
theorem dX1_goOn_42 : decode cX1_goOn 42 = .ok (.iload_n 2, 1) := dk_28 (dk_at dksX1_goOn_1 20 rfl rfl)
theorem dX1_goOn_43 : decode cX1_goOn 43 = .ok (.iaload, 1) := dk_46 (dk_at dksX1_goOn_1 21 rfl rfl)
theorem dX1_goOn_44 : decode cX1_goOn 44 = .ok (.iadd, 1) := dk_96 (dk_at dksX1_goOn_1 22 rfl rfl)
theorem dX1_goOn_45 : decode cX1_goOn 45 = .ok (.aload_n 1, 1) := dk_43 (dk_at dksX1_goOn_1 23 rfl rfl)
theorem dX1_goOn_46 : decode cX1_goOn 46 = .ok (.getfield 330, 3) := dk_180 1 74 (dk_at dksX1_goOn_2 0 rfl rfl)
theorem dX1_goOn_49 : decode cX1_goOn 49 = .ok (.iconst 1, 1) := dk_4 (dk_at dksX1_goOn_2 3 rfl rfl)
theorem dX1_goOn_50 : decode cX1_goOn 50 = .ok (.iadd, 1) := dk_96 (dk_at dksX1_goOn_2 4 rfl rfl)
theorem dX1_goOn_51 : decode cX1_goOn 51 = .ok (.bipush 10, 2) := dk_16 10 (dk_at dksX1_goOn_2 5 rfl rfl)
theorem dX1_goOn_53 : decode cX1_goOn 53 = .ok (.aload_n 1, 1) := dk_43 (dk_at dksX1_goOn_2 7 rfl rfl)
theorem dX1_goOn_54 : decode cX1_goOn 54 = .ok (.getfield 333, 3) := dk_180 1 77 (dk_at dksX1_goOn_2 8 rfl rfl)
theorem dX1_goOn_57 : decode cX1_goOn 57 = .ok (.imul, 1) := dk_104 (dk_at dksX1_goOn_2 11 rfl rfl)
theorem dX1_goOn_58 : decode cX1_goOn 58 = .ok (.iload_n 2, 1) := dk_28 (dk_at dksX1_goOn_2 12 rfl rfl)
theorem dX1_goOn_59 : decode cX1_goOn 59 = .ok (.iadd, 1) := dk_96 (dk_at dksX1_goOn_2 13 rfl rfl)
theorem dX1_goOn_60 : decode cX1_goOn 60 = .ok (.iconst 1, 1) := dk_4 (dk_at dksX1_goOn_2 14 rfl rfl)
theorem dX1_goOn_61 : decode cX1_goOn 61 = .ok (.iadd, 1) := dk_96 (dk_at dksX1_goOn_2 15 rfl rfl)
theorem dX1_goOn_62 : decode cX1_goOn 62 = .ok (.aload_n 1, 1) := dk_43 (dk_at dksX1_goOn_2 16 rfl rfl)
theorem dX1_goOn_63 : decode cX1_goOn 63 = .ok (.getfield 324, 3) := dk_180 1 68 (dk_at dksX1_goOn_2 17 rfl rfl)
theorem dX1_goOn_66 : decode cX1_goOn 66 = .ok (.iconst 1, 1) := dk_4 (dk_at dksX1_goOn_2 20 rfl rfl)
theorem dX1_goOn_67 : decode cX1_goOn 67 = .ok (.iload_n 2, 1) := dk_28 (dk_at dksX1_goOn_2 21 rfl rfl)
theorem dX1_goOn_68 : decode cX1_goOn 68 = .ok (.ishl, 1) := dk_120 (dk_at dksX1_goOn_2 22 rfl rfl)
theorem dX1_goOn_69 : decode cX1_goOn 69 = .ok (.ior, 1) := dk_128 (dk_at dksX1_goOn_2 23 rfl rfl)
theorem dX1_goOn_70 : decode cX1_goOn 70 = .ok (.invokespecial 321, 3) := dk_183 1 65 (dk_at dksX1_goOn_3 0 rfl rfl)
theorem dX1_goOn_73 : decode cX1_goOn 73 = .ok (.invokevirtual 252, 3) := dk_182 0 252 (dk_at dksX1_goOn_3 3 rfl rfl)
theorem dX1_goOn_76 : decode cX1_goOn 76 = .ok (.pop, 1) := dk_87 (dk_at dksX1_goOn_3 6 rfl rfl)
theorem dX1_goOn_77 : decode cX1_goOn 77 = .ok (.iinc 2 1, 3) := dk_132 2 1 (dk_at dksX1_goOn_3 7 rfl rfl)
theorem dX1_goOn_80 : decode cX1_goOn 80 = .ok (.goto (-78), 3) := dk_167 255 178 (dk_at dksX1_goOn_3 10 rfl rfl)
theorem dX1_goOn_83 : decode cX1_goOn 83 = .ok (.return_, 1) := dk_177 (dk_at dksX1_goOn_3 13 rfl rfl)
abbrev cX1_currentColumn : ByteArray := prog_1_method_70_code
def yX1_currentColumn : MethodName := ⟨RX1, "currentColumn", "(I)I"⟩
def dkwX1_currentColumn_2 : List UInt8 := [28, 16, 10, 108, 61, 132, 3, 255, 167, 255, 243, 28, 16, 10, 112, 4, 100, 172]
abbrev dktX1_currentColumn_2 : List UInt8 := dkwX1_currentColumn_2 ++ []
def dkwX1_currentColumn_1 : List UInt8 := [167, 0, 4, 3, 184, 0, 209, 42, 180, 0, 154, 61, 42, 180, 0, 7, 4, 100, 62, 29, 27, 164, 0, 14]
abbrev dktX1_currentColumn_1 : List UInt8 := dkwX1_currentColumn_1 ++ dktX1_currentColumn_2
def dkwX1_currentColumn_0 : List UInt8 := [42, 27, 182, 0, 169, 184, 0, 176, 42, 180, 0, 147, 153, 0, 14, 42, 180, 0, 151, 158, 0, 7, 4]
abbrev dktX1_currentColumn_0 : List UInt8 := dkwX1_currentColumn_0 ++ dktX1_currentColumn_1
theorem dksX1_currentColumn_0 : cX1_currentColumn.data.toList.drop 0 = dktX1_currentColumn_0 := by decide +kernel
theorem dksX1_currentColumn_1 : cX1_currentColumn.data.toList.drop 23 = dktX1_currentColumn_1 := dk_seg dksX1_currentColumn_0 23 rfl rfl
theorem dksX1_currentColumn_2 : cX1_currentColumn.data.toList.drop 47 = dktX1_currentColumn_2 := dk_seg dksX1_currentColumn_1 24 rfl rfl
theorem dX1_currentColumn_0 : decode cX1_currentColumn 0 = .ok (.aload_n 0, 1) := dk_42 (dk_at dksX1_currentColumn_0 0 rfl rfl)
theorem dX1_currentColumn_1 : decode cX1_currentColumn 1 = .ok (.iload_n 1, 1) := dk_27 (dk_at dksX1_currentColumn_0 1 rfl rfl)
theorem dX1_currentColumn_2 : decode cX1_currentColumn 2 = .ok (.invokevirtual 169, 3) := dk_182 0 169 (dk_at dksX1_currentColumn_0 2 rfl rfl)
theorem dX1_currentColumn_5 : decode cX1_currentColumn 5 = .ok (.invokestatic 176, 3) := dk_184 0 176 (dk_at dksX1_currentColumn_0 5 rfl rfl)
theorem dX1_currentColumn_8 : decode cX1_currentColumn 8 = .ok (.aload_n 0, 1) := dk_42 (dk_at dksX1_currentColumn_0 8 rfl rfl)
theorem dX1_currentColumn_9 : decode cX1_currentColumn 9 = .ok (.getfield 147, 3) := dk_180 0 147 (dk_at dksX1_currentColumn_0 9 rfl rfl)
theorem dX1_currentColumn_12 : decode cX1_currentColumn 12 = .ok (.ifCond .eq 14, 3) := dk_153 0 14 (dk_at dksX1_currentColumn_0 12 rfl rfl)
theorem dX1_currentColumn_15 : decode cX1_currentColumn 15 = .ok (.aload_n 0, 1) := dk_42 (dk_at dksX1_currentColumn_0 15 rfl rfl)
theorem dX1_currentColumn_16 : decode cX1_currentColumn 16 = .ok (.getfield 151, 3) := dk_180 0 151 (dk_at dksX1_currentColumn_0 16 rfl rfl)
theorem dX1_currentColumn_19 : decode cX1_currentColumn 19 = .ok (.ifCond .le 7, 3) := dk_158 0 7 (dk_at dksX1_currentColumn_0 19 rfl rfl)
theorem dX1_currentColumn_22 : decode cX1_currentColumn 22 = .ok (.iconst 1, 1) := dk_4 (dk_at dksX1_currentColumn_0 22 rfl rfl)
theorem dX1_currentColumn_23 : decode cX1_currentColumn 23 = .ok (.goto 4, 3) := dk_167 0 4 (dk_at dksX1_currentColumn_1 0 rfl rfl)
theorem dX1_currentColumn_26 : decode cX1_currentColumn 26 = .ok (.iconst 0, 1) := dk_3 (dk_at dksX1_currentColumn_1 3 rfl rfl)
theorem dX1_currentColumn_27 : decode cX1_currentColumn 27 = .ok (.invokestatic 209, 3) := dk_184 0 209 (dk_at dksX1_currentColumn_1 4 rfl rfl)
theorem dX1_currentColumn_30 : decode cX1_currentColumn 30 = .ok (.aload_n 0, 1) := dk_42 (dk_at dksX1_currentColumn_1 7 rfl rfl)
theorem dX1_currentColumn_31 : decode cX1_currentColumn 31 = .ok (.getfield 154, 3) := dk_180 0 154 (dk_at dksX1_currentColumn_1 8 rfl rfl)
theorem dX1_currentColumn_34 : decode cX1_currentColumn 34 = .ok (.istore_n 2, 1) := dk_61 (dk_at dksX1_currentColumn_1 11 rfl rfl)
theorem dX1_currentColumn_35 : decode cX1_currentColumn 35 = .ok (.aload_n 0, 1) := dk_42 (dk_at dksX1_currentColumn_1 12 rfl rfl)
theorem dX1_currentColumn_36 : decode cX1_currentColumn 36 = .ok (.getfield 7, 3) := dk_180 0 7 (dk_at dksX1_currentColumn_1 13 rfl rfl)
theorem dX1_currentColumn_39 : decode cX1_currentColumn 39 = .ok (.iconst 1, 1) := dk_4 (dk_at dksX1_currentColumn_1 16 rfl rfl)
theorem dX1_currentColumn_40 : decode cX1_currentColumn 40 = .ok (.isub, 1) := dk_100 (dk_at dksX1_currentColumn_1 17 rfl rfl)
theorem dX1_currentColumn_41 : decode cX1_currentColumn 41 = .ok (.istore_n 3, 1) := dk_62 (dk_at dksX1_currentColumn_1 18 rfl rfl)
theorem dX1_currentColumn_42 : decode cX1_currentColumn 42 = .ok (.iload_n 3, 1) := dk_29 (dk_at dksX1_currentColumn_1 19 rfl rfl)
theorem dX1_currentColumn_43 : decode cX1_currentColumn 43 = .ok (.iload_n 1, 1) := dk_27 (dk_at dksX1_currentColumn_1 20 rfl rfl)
theorem dX1_currentColumn_44 : decode cX1_currentColumn 44 = .ok (.if_icmp .le 14, 3) := dk_164 0 14 (dk_at dksX1_currentColumn_1 21 rfl rfl)
theorem dX1_currentColumn_47 : decode cX1_currentColumn 47 = .ok (.iload_n 2, 1) := dk_28 (dk_at dksX1_currentColumn_2 0 rfl rfl)
theorem dX1_currentColumn_48 : decode cX1_currentColumn 48 = .ok (.bipush 10, 2) := dk_16 10 (dk_at dksX1_currentColumn_2 1 rfl rfl)
theorem dX1_currentColumn_50 : decode cX1_currentColumn 50 = .ok (.idiv, 1) := dk_108 (dk_at dksX1_currentColumn_2 3 rfl rfl)
theorem dX1_currentColumn_51 : decode cX1_currentColumn 51 = .ok (.istore_n 2, 1) := dk_61 (dk_at dksX1_currentColumn_2 4 rfl rfl)
theorem dX1_currentColumn_52 : decode cX1_currentColumn 52 = .ok (.iinc 3 (-1), 3) := dk_132 3 255 (dk_at dksX1_currentColumn_2 5 rfl rfl)
theorem dX1_currentColumn_55 : decode cX1_currentColumn 55 = .ok (.goto (-13), 3) := dk_167 255 243 (dk_at dksX1_currentColumn_2 8 rfl rfl)
theorem dX1_currentColumn_58 : decode cX1_currentColumn 58 = .ok (.iload_n 2, 1) := dk_28 (dk_at dksX1_currentColumn_2 11 rfl rfl)
theorem dX1_currentColumn_59 : decode cX1_currentColumn 59 = .ok (.bipush 10, 2) := dk_16 10 (dk_at dksX1_currentColumn_2 12 rfl rfl)
theorem dX1_currentColumn_61 : decode cX1_currentColumn 61 = .ok (.irem, 1) := dk_112 (dk_at dksX1_currentColumn_2 14 rfl rfl)
theorem dX1_currentColumn_62 : decode cX1_currentColumn 62 = .ok (.iconst 1, 1) := dk_4 (dk_at dksX1_currentColumn_2 15 rfl rfl)
theorem dX1_currentColumn_63 : decode cX1_currentColumn 63 = .ok (.isub, 1) := dk_100 (dk_at dksX1_currentColumn_2 16 rfl rfl)
theorem dX1_currentColumn_64 : decode cX1_currentColumn 64 = .ok (.ireturn, 1) := dk_172 (dk_at dksX1_currentColumn_2 17 rfl rfl)
abbrev cX1_shareOf : ByteArray := prog_1_method_73_code
def yX1_shareOf : MethodName := ⟨RX1, "shareOf", "(I)F"⟩
def dkwX1_shareOf_1 : List UInt8 := [180, 0, 35, 27, 50, 42, 180, 0, 48, 27, 46, 46, 134, 28, 134, 110, 174]
abbrev dktX1_shareOf_1 : List UInt8 := dkwX1_shareOf_1 ++ []
def dkwX1_shareOf_0 : List UInt8 := [42, 27, 182, 0, 169, 184, 0, 176, 42, 182, 1, 36, 61, 28, 154, 0, 7, 11, 167, 0, 20, 42]
abbrev dktX1_shareOf_0 : List UInt8 := dkwX1_shareOf_0 ++ dktX1_shareOf_1
theorem dksX1_shareOf_0 : cX1_shareOf.data.toList.drop 0 = dktX1_shareOf_0 := by decide +kernel
theorem dksX1_shareOf_1 : cX1_shareOf.data.toList.drop 22 = dktX1_shareOf_1 := dk_seg dksX1_shareOf_0 22 rfl rfl
theorem dX1_shareOf_0 : decode cX1_shareOf 0 = .ok (.aload_n 0, 1) := dk_42 (dk_at dksX1_shareOf_0 0 rfl rfl)
theorem dX1_shareOf_1 : decode cX1_shareOf 1 = .ok (.iload_n 1, 1) := dk_27 (dk_at dksX1_shareOf_0 1 rfl rfl)
theorem dX1_shareOf_2 : decode cX1_shareOf 2 = .ok (.invokevirtual 169, 3) := dk_182 0 169 (dk_at dksX1_shareOf_0 2 rfl rfl)
theorem dX1_shareOf_5 : decode cX1_shareOf 5 = .ok (.invokestatic 176, 3) := dk_184 0 176 (dk_at dksX1_shareOf_0 5 rfl rfl)
theorem dX1_shareOf_8 : decode cX1_shareOf 8 = .ok (.aload_n 0, 1) := dk_42 (dk_at dksX1_shareOf_0 8 rfl rfl)
theorem dX1_shareOf_9 : decode cX1_shareOf 9 = .ok (.invokevirtual 292, 3) := dk_182 1 36 (dk_at dksX1_shareOf_0 9 rfl rfl)
theorem dX1_shareOf_12 : decode cX1_shareOf 12 = .ok (.istore_n 2, 1) := dk_61 (dk_at dksX1_shareOf_0 12 rfl rfl)
theorem dX1_shareOf_13 : decode cX1_shareOf 13 = .ok (.iload_n 2, 1) := dk_28 (dk_at dksX1_shareOf_0 13 rfl rfl)
theorem dX1_shareOf_14 : decode cX1_shareOf 14 = .ok (.ifCond .ne 7, 3) := dk_154 0 7 (dk_at dksX1_shareOf_0 14 rfl rfl)
theorem dX1_shareOf_17 : decode cX1_shareOf 17 = .ok (.fconst 0, 1) := dk_11 (dk_at dksX1_shareOf_0 17 rfl rfl)
theorem dX1_shareOf_18 : decode cX1_shareOf 18 = .ok (.goto 20, 3) := dk_167 0 20 (dk_at dksX1_shareOf_0 18 rfl rfl)
theorem dX1_shareOf_21 : decode cX1_shareOf 21 = .ok (.aload_n 0, 1) := dk_42 (dk_at dksX1_shareOf_0 21 rfl rfl)
theorem dX1_shareOf_22 : decode cX1_shareOf 22 = .ok (.getfield 35, 3) := dk_180 0 35 (dk_at dksX1_shareOf_1 0 rfl rfl)
theorem dX1_shareOf_25 : decode cX1_shareOf 25 = .ok (.iload_n 1, 1) := dk_27 (dk_at dksX1_shareOf_1 3 rfl rfl)
theorem dX1_shareOf_26 : decode cX1_shareOf 26 = .ok (.aaload, 1) := dk_50 (dk_at dksX1_shareOf_1 4 rfl rfl)
theorem dX1_shareOf_27 : decode cX1_shareOf 27 = .ok (.aload_n 0, 1) := dk_42 (dk_at dksX1_shareOf_1 5 rfl rfl)
theorem dX1_shareOf_28 : decode cX1_shareOf 28 = .ok (.getfield 48, 3) := dk_180 0 48 (dk_at dksX1_shareOf_1 6 rfl rfl)
theorem dX1_shareOf_31 : decode cX1_shareOf 31 = .ok (.iload_n 1, 1) := dk_27 (dk_at dksX1_shareOf_1 9 rfl rfl)
theorem dX1_shareOf_32 : decode cX1_shareOf 32 = .ok (.iaload, 1) := dk_46 (dk_at dksX1_shareOf_1 10 rfl rfl)
theorem dX1_shareOf_33 : decode cX1_shareOf 33 = .ok (.iaload, 1) := dk_46 (dk_at dksX1_shareOf_1 11 rfl rfl)
theorem dX1_shareOf_34 : decode cX1_shareOf 34 = .ok (.i2f, 1) := dk_134 (dk_at dksX1_shareOf_1 12 rfl rfl)
theorem dX1_shareOf_35 : decode cX1_shareOf 35 = .ok (.iload_n 2, 1) := dk_28 (dk_at dksX1_shareOf_1 13 rfl rfl)
theorem dX1_shareOf_36 : decode cX1_shareOf 36 = .ok (.i2f, 1) := dk_134 (dk_at dksX1_shareOf_1 14 rfl rfl)
theorem dX1_shareOf_37 : decode cX1_shareOf 37 = .ok (.fdiv, 1) := dk_110 (dk_at dksX1_shareOf_1 15 rfl rfl)
theorem dX1_shareOf_38 : decode cX1_shareOf 38 = .ok (.freturn, 1) := dk_174 (dk_at dksX1_shareOf_1 16 rfl rfl)
theorem q56 : (Jvm.Cond.initialized "ChoreAssignment") ∈ lw_all := lw_g (lw_at lw_m1 1 rfl) rfl
theorem q94 : (Jvm.Cond.instantiable "ChoreAssignment" (26 : Nat)) ∈ lw_all := lw_g (lw_at lw_m1 39 rfl) rfl
theorem q96 : (Jvm.Cond.instanceMethod ({ cls := "ChoreAssignment", name := "<init>", desc := "()V" } : Jvm.MethodName)) ∈ lw_all := lw_g (lw_at lw_m1 41 rfl) rfl
theorem q97 : (Jvm.Cond.code ({ cls := "ChoreAssignment", name := "<init>", desc := "()V" } : Jvm.MethodName) prog_1_method_1_code (1 : Nat) (Option.none : Option Jvm.ClassFile.FieldType)) ∈ lw_all := lw_g (lw_at lw_m1 42 rfl) rfl
theorem q98 : (Jvm.Cond.methodLink "ChoreAssignment" (1 : Nat) ({ cls := "java/lang/Object", name := "<init>", desc := "()V" } : Jvm.MethodName)) ∈ lw_all := lw_g (lw_at lw_m1 43 rfl) rfl
theorem q101 : (Jvm.Cond.methodLink "ChoreAssignment" (16 : Nat) ({ cls := "ChoreAssignment", name := "zeros", desc := "(II)Ljava/util/ArrayList;" } : Jvm.MethodName)) ∈ lw_all := lw_g (lw_at lw_m1 46 rfl) rfl
theorem q102 : (Jvm.Cond.static ({ cls := "ChoreAssignment", name := "zeros", desc := "(II)Ljava/util/ArrayList;" } : Jvm.MethodName)) ∈ lw_all := lw_g (lw_at lw_m1 47 rfl) rfl
theorem q103 : (Jvm.Cond.code ({ cls := "ChoreAssignment", name := "zeros", desc := "(II)Ljava/util/ArrayList;" } : Jvm.MethodName) prog_1_method_2_code (6 : Nat) (Option.some (Jvm.ClassFile.FieldType.object "java/util/ArrayList"))) ∈ lw_all := lw_g (lw_at lw_m1 48 rfl) rfl
theorem q104 : (Jvm.Cond.classLink "ChoreAssignment" (91 : Nat) "java/util/ArrayList") ∈ lw_all := lw_g (lw_at lw_m1 49 rfl) rfl
theorem q106 : (Jvm.Cond.methodLink "ChoreAssignment" (93 : Nat) ({ cls := "java/util/ArrayList", name := "<init>", desc := "()V" } : Jvm.MethodName)) ∈ lw_all := lw_g (lw_at lw_m1 51 rfl) rfl
theorem q133 : (Jvm.Cond.methodLink "ChoreAssignment" (94 : Nat) ({ cls := "java/lang/Integer", name := "valueOf", desc := "(I)Ljava/lang/Integer;" } : Jvm.MethodName)) ∈ lw_all := lw_g (lw_at lw_m1 78 rfl) rfl
theorem q153 : (Jvm.Cond.methodLink "ChoreAssignment" (100 : Nat) ({ cls := "java/util/ArrayList", name := "add", desc := "(Ljava/lang/Object;)Z" } : Jvm.MethodName)) ∈ lw_all := lw_g (lw_at lw_m1 98 rfl) rfl
theorem q185 : (Jvm.Cond.selects "ChoreAssignment" ({ cls := "java/lang/Object", name := "getClass", desc := "()Ljava/lang/Class;" } : Jvm.MethodName) ({ cls := "java/lang/Object", name := "getClass", desc := "()Ljava/lang/Class;" } : Jvm.MethodName)) ∈ lw_all := lw_g (lw_at lw_m1 130 rfl) rfl
theorem q218 : (Jvm.Cond.classLink "ChoreAssignment" (33 : Nat) "[[I") ∈ lw_all := lw_g (lw_at lw_m1 163 rfl) rfl
theorem q220 : (Jvm.Cond.classLink "ChoreAssignment" (61 : Nat) "java/util/PriorityQueue") ∈ lw_all := lw_g (lw_at lw_m1 165 rfl) rfl
theorem q222 : (Jvm.Cond.classLink "ChoreAssignment" (63 : Nat) "ChoreAssignment$ByCost") ∈ lw_all := lw_g (lw_at lw_m1 167 rfl) rfl
theorem q224 : (Jvm.Cond.methodLinkNest "ChoreAssignment" (65 : Nat) ({ cls := "ChoreAssignment$ByCost", name := "<init>", desc := "()V" } : Jvm.MethodName) "ChoreAssignment") ∈ lw_tbl := lw_at lw_m1 169 rfl
theorem q231 : (Jvm.Cond.methodLink "ChoreAssignment" (66 : Nat) ({ cls := "java/util/PriorityQueue", name := "<init>", desc := "(Ljava/util/Comparator;)V" } : Jvm.MethodName)) ∈ lw_all := lw_g (lw_at lw_m1 176 rfl) rfl
theorem q321 : (Jvm.Cond.classLink "ChoreAssignment" (82 : Nat) "ChoreAssignment$ByBound") ∈ lw_all := lw_g (lw_at lw_m2 26 rfl) rfl
theorem q323 : (Jvm.Cond.methodLinkNest "ChoreAssignment" (84 : Nat) ({ cls := "ChoreAssignment$ByBound", name := "<init>", desc := "()V" } : Jvm.MethodName) "ChoreAssignment") ∈ lw_tbl := lw_at lw_m2 28 rfl
theorem q328 : (Jvm.Cond.fieldLink "ChoreAssignment" (7 : Nat) "ChoreAssignment" "n" "I") ∈ lw_all := lw_g (lw_at lw_m2 33 rfl) rfl
theorem q329 : (Jvm.Cond.fieldLink "ChoreAssignment" (13 : Nat) "ChoreAssignment" "m" "I") ∈ lw_all := lw_g (lw_at lw_m2 34 rfl) rfl
theorem q330 : (Jvm.Cond.fieldLink "ChoreAssignment" (20 : Nat) "ChoreAssignment" "numbers" "Ljava/util/ArrayList;") ∈ lw_all := lw_g (lw_at lw_m2 35 rfl) rfl
theorem q331 : (Jvm.Cond.fieldLink "ChoreAssignment" (24 : Nat) "ChoreAssignment" "savedN" "I") ∈ lw_all := lw_g (lw_at lw_m2 36 rfl) rfl
theorem q332 : (Jvm.Cond.fieldLink "ChoreAssignment" (27 : Nat) "ChoreAssignment" "savedM" "I") ∈ lw_all := lw_g (lw_at lw_m2 37 rfl) rfl
theorem q333 : (Jvm.Cond.fieldLink "ChoreAssignment" (30 : Nat) "ChoreAssignment" "savedNumbers" "Ljava/util/ArrayList;") ∈ lw_all := lw_g (lw_at lw_m2 38 rfl) rfl
theorem q334 : (Jvm.Cond.fieldLink "ChoreAssignment" (237 : Nat) "ChoreAssignment" "size" "I") ∈ lw_all := lw_g (lw_at lw_m2 39 rfl) rfl
theorem q335 : (Jvm.Cond.fieldLink "ChoreAssignment" (35 : Nat) "ChoreAssignment" "cost" "[[I") ∈ lw_all := lw_g (lw_at lw_m2 40 rfl) rfl
theorem q336 : (Jvm.Cond.fieldLink "ChoreAssignment" (38 : Nat) "ChoreAssignment" "rowDual" "[I") ∈ lw_all := lw_g (lw_at lw_m2 41 rfl) rfl
theorem q337 : (Jvm.Cond.fieldLink "ChoreAssignment" (42 : Nat) "ChoreAssignment" "columnDual" "[I") ∈ lw_all := lw_g (lw_at lw_m2 42 rfl) rfl
theorem q338 : (Jvm.Cond.fieldLink "ChoreAssignment" (45 : Nat) "ChoreAssignment" "rowOf" "[I") ∈ lw_all := lw_g (lw_at lw_m2 43 rfl) rfl
theorem q339 : (Jvm.Cond.fieldLink "ChoreAssignment" (48 : Nat) "ChoreAssignment" "columnOf" "[I") ∈ lw_all := lw_g (lw_at lw_m2 44 rfl) rfl
theorem q340 : (Jvm.Cond.fieldLink "ChoreAssignment" (51 : Nat) "ChoreAssignment" "distance" "[I") ∈ lw_all := lw_g (lw_at lw_m2 45 rfl) rfl
theorem q341 : (Jvm.Cond.fieldLink "ChoreAssignment" (54 : Nat) "ChoreAssignment" "from" "[I") ∈ lw_all := lw_g (lw_at lw_m2 46 rfl) rfl
theorem q342 : (Jvm.Cond.fieldLink "ChoreAssignment" (57 : Nat) "ChoreAssignment" "isSettled" "[Z") ∈ lw_all := lw_g (lw_at lw_m2 47 rfl) rfl
theorem q343 : (Jvm.Cond.fieldLink "ChoreAssignment" (69 : Nat) "ChoreAssignment" "ways" "Ljava/util/PriorityQueue;") ∈ lw_all := lw_g (lw_at lw_m2 48 rfl) rfl
theorem q344 : (Jvm.Cond.fieldLink "ChoreAssignment" (244 : Nat) "ChoreAssignment" "found" "I") ∈ lw_all := lw_g (lw_at lw_m2 49 rfl) rfl
theorem q345 : (Jvm.Cond.fieldLink "ChoreAssignment" (73 : Nat) "ChoreAssignment" "goingOn" "[I") ∈ lw_all := lw_g (lw_at lw_m2 50 rfl) rfl
theorem q346 : (Jvm.Cond.fieldLink "ChoreAssignment" (76 : Nat) "ChoreAssignment" "rowPotentials" "[I") ∈ lw_all := lw_g (lw_at lw_m2 51 rfl) rfl
theorem q347 : (Jvm.Cond.fieldLink "ChoreAssignment" (79 : Nat) "ChoreAssignment" "columnPotentials" "[I") ∈ lw_all := lw_g (lw_at lw_m2 52 rfl) rfl
theorem q348 : (Jvm.Cond.fieldLink "ChoreAssignment" (85 : Nat) "ChoreAssignment" "parts" "Ljava/util/PriorityQueue;") ∈ lw_all := lw_g (lw_at lw_m2 53 rfl) rfl
theorem q349 : (Jvm.Cond.fieldLink "ChoreAssignment" (88 : Nat) "ChoreAssignment" "reduced" "[[I") ∈ lw_all := lw_g (lw_at lw_m2 54 rfl) rfl
theorem q350 : (Jvm.Cond.fieldLink "ChoreAssignment" (316 : Nat) "ChoreAssignment" "least" "I") ∈ lw_all := lw_g (lw_at lw_m2 55 rfl) rfl
theorem q351 : (Jvm.Cond.fieldLink "ChoreAssignment" (147 : Nat) "ChoreAssignment" "isActive" "Z") ∈ lw_all := lw_g (lw_at lw_m2 56 rfl) rfl
theorem q352 : (Jvm.Cond.fieldLink "ChoreAssignment" (151 : Nat) "ChoreAssignment" "steps" "I") ∈ lw_all := lw_g (lw_at lw_m2 57 rfl) rfl
theorem q353 : (Jvm.Cond.fieldLink "ChoreAssignment" (154 : Nat) "ChoreAssignment" "lastCode" "I") ∈ lw_all := lw_g (lw_at lw_m2 58 rfl) rfl
theorem q354 : (Jvm.Cond.lays "ChoreAssignment" "ChoreAssignment" "n" "I") ∈ lw_all := lw_g (lw_at lw_m2 59 rfl) rfl
theorem q355 : (Jvm.Cond.soleField "ChoreAssignment" "n") ∈ lw_all := lw_g (lw_at lw_m2 60 rfl) rfl
theorem q356 : (Jvm.Cond.lays "ChoreAssignment" "ChoreAssignment" "m" "I") ∈ lw_all := lw_g (lw_at lw_m2 61 rfl) rfl
theorem q357 : (Jvm.Cond.soleField "ChoreAssignment" "m") ∈ lw_all := lw_g (lw_at lw_m2 62 rfl) rfl
theorem q358 : (Jvm.Cond.lays "ChoreAssignment" "ChoreAssignment" "numbers" "Ljava/util/ArrayList;") ∈ lw_all := lw_g (lw_at lw_m2 63 rfl) rfl
theorem q359 : (Jvm.Cond.soleField "ChoreAssignment" "numbers") ∈ lw_all := lw_g (lw_at lw_m2 64 rfl) rfl
theorem q360 : (Jvm.Cond.lays "ChoreAssignment" "ChoreAssignment" "savedN" "I") ∈ lw_all := lw_g (lw_at lw_m2 65 rfl) rfl
theorem q361 : (Jvm.Cond.soleField "ChoreAssignment" "savedN") ∈ lw_all := lw_g (lw_at lw_m2 66 rfl) rfl
theorem q362 : (Jvm.Cond.lays "ChoreAssignment" "ChoreAssignment" "savedM" "I") ∈ lw_all := lw_g (lw_at lw_m2 67 rfl) rfl
theorem q363 : (Jvm.Cond.soleField "ChoreAssignment" "savedM") ∈ lw_all := lw_g (lw_at lw_m2 68 rfl) rfl
theorem q364 : (Jvm.Cond.lays "ChoreAssignment" "ChoreAssignment" "savedNumbers" "Ljava/util/ArrayList;") ∈ lw_all := lw_g (lw_at lw_m2 69 rfl) rfl
theorem q365 : (Jvm.Cond.soleField "ChoreAssignment" "savedNumbers") ∈ lw_all := lw_g (lw_at lw_m2 70 rfl) rfl
theorem q366 : (Jvm.Cond.lays "ChoreAssignment" "ChoreAssignment" "size" "I") ∈ lw_all := lw_g (lw_at lw_m2 71 rfl) rfl
theorem q367 : (Jvm.Cond.soleField "ChoreAssignment" "size") ∈ lw_all := lw_g (lw_at lw_m2 72 rfl) rfl
theorem q368 : (Jvm.Cond.laysFinal "ChoreAssignment" "ChoreAssignment" "cost" "[[I") ∈ lw_all := lw_g (lw_at lw_m2 73 rfl) rfl
theorem q369 : (Jvm.Cond.soleField "ChoreAssignment" "cost") ∈ lw_all := lw_g (lw_at lw_m2 74 rfl) rfl
theorem q370 : (Jvm.Cond.laysFinal "ChoreAssignment" "ChoreAssignment" "rowDual" "[I") ∈ lw_all := lw_g (lw_at lw_m2 75 rfl) rfl
theorem q371 : (Jvm.Cond.soleField "ChoreAssignment" "rowDual") ∈ lw_all := lw_g (lw_at lw_m2 76 rfl) rfl
theorem q372 : (Jvm.Cond.laysFinal "ChoreAssignment" "ChoreAssignment" "columnDual" "[I") ∈ lw_all := lw_g (lw_at lw_m2 77 rfl) rfl
theorem q373 : (Jvm.Cond.soleField "ChoreAssignment" "columnDual") ∈ lw_all := lw_g (lw_at lw_m2 78 rfl) rfl
theorem q374 : (Jvm.Cond.laysFinal "ChoreAssignment" "ChoreAssignment" "rowOf" "[I") ∈ lw_all := lw_g (lw_at lw_m2 79 rfl) rfl
theorem q375 : (Jvm.Cond.soleField "ChoreAssignment" "rowOf") ∈ lw_all := lw_g (lw_at lw_m2 80 rfl) rfl
theorem q376 : (Jvm.Cond.laysFinal "ChoreAssignment" "ChoreAssignment" "columnOf" "[I") ∈ lw_all := lw_g (lw_at lw_m2 81 rfl) rfl
theorem q377 : (Jvm.Cond.soleField "ChoreAssignment" "columnOf") ∈ lw_all := lw_g (lw_at lw_m2 82 rfl) rfl
theorem q378 : (Jvm.Cond.laysFinal "ChoreAssignment" "ChoreAssignment" "distance" "[I") ∈ lw_all := lw_g (lw_at lw_m2 83 rfl) rfl
theorem q379 : (Jvm.Cond.soleField "ChoreAssignment" "distance") ∈ lw_all := lw_g (lw_at lw_m2 84 rfl) rfl
theorem q380 : (Jvm.Cond.laysFinal "ChoreAssignment" "ChoreAssignment" "from" "[I") ∈ lw_all := lw_g (lw_at lw_m2 85 rfl) rfl
theorem q381 : (Jvm.Cond.soleField "ChoreAssignment" "from") ∈ lw_all := lw_g (lw_at lw_m2 86 rfl) rfl
theorem q382 : (Jvm.Cond.laysFinal "ChoreAssignment" "ChoreAssignment" "isSettled" "[Z") ∈ lw_all := lw_g (lw_at lw_m2 87 rfl) rfl
theorem q383 : (Jvm.Cond.soleField "ChoreAssignment" "isSettled") ∈ lw_all := lw_g (lw_at lw_m2 88 rfl) rfl
theorem q384 : (Jvm.Cond.laysFinal "ChoreAssignment" "ChoreAssignment" "ways" "Ljava/util/PriorityQueue;") ∈ lw_all := lw_g (lw_at lw_m2 89 rfl) rfl
theorem q385 : (Jvm.Cond.soleField "ChoreAssignment" "ways") ∈ lw_all := lw_g (lw_at lw_m2 90 rfl) rfl
theorem q386 : (Jvm.Cond.lays "ChoreAssignment" "ChoreAssignment" "found" "I") ∈ lw_all := lw_g (lw_at lw_m2 91 rfl) rfl
theorem q387 : (Jvm.Cond.soleField "ChoreAssignment" "found") ∈ lw_all := lw_g (lw_at lw_m2 92 rfl) rfl
theorem q388 : (Jvm.Cond.laysFinal "ChoreAssignment" "ChoreAssignment" "goingOn" "[I") ∈ lw_all := lw_g (lw_at lw_m2 93 rfl) rfl
theorem q389 : (Jvm.Cond.soleField "ChoreAssignment" "goingOn") ∈ lw_all := lw_g (lw_at lw_m2 94 rfl) rfl
theorem q390 : (Jvm.Cond.laysFinal "ChoreAssignment" "ChoreAssignment" "rowPotentials" "[I") ∈ lw_all := lw_g (lw_at lw_m2 95 rfl) rfl
theorem q391 : (Jvm.Cond.soleField "ChoreAssignment" "rowPotentials") ∈ lw_all := lw_g (lw_at lw_m2 96 rfl) rfl
theorem q392 : (Jvm.Cond.laysFinal "ChoreAssignment" "ChoreAssignment" "columnPotentials" "[I") ∈ lw_all := lw_g (lw_at lw_m2 97 rfl) rfl
theorem q393 : (Jvm.Cond.soleField "ChoreAssignment" "columnPotentials") ∈ lw_all := lw_g (lw_at lw_m2 98 rfl) rfl
theorem q394 : (Jvm.Cond.laysFinal "ChoreAssignment" "ChoreAssignment" "parts" "Ljava/util/PriorityQueue;") ∈ lw_all := lw_g (lw_at lw_m2 99 rfl) rfl
theorem q395 : (Jvm.Cond.soleField "ChoreAssignment" "parts") ∈ lw_all := lw_g (lw_at lw_m2 100 rfl) rfl
theorem q396 : (Jvm.Cond.laysFinal "ChoreAssignment" "ChoreAssignment" "reduced" "[[I") ∈ lw_all := lw_g (lw_at lw_m2 101 rfl) rfl
theorem q397 : (Jvm.Cond.soleField "ChoreAssignment" "reduced") ∈ lw_all := lw_g (lw_at lw_m2 102 rfl) rfl
theorem q398 : (Jvm.Cond.lays "ChoreAssignment" "ChoreAssignment" "least" "I") ∈ lw_all := lw_g (lw_at lw_m2 103 rfl) rfl
theorem q399 : (Jvm.Cond.soleField "ChoreAssignment" "least") ∈ lw_all := lw_g (lw_at lw_m2 104 rfl) rfl
theorem q400 : (Jvm.Cond.lays "ChoreAssignment" "ChoreAssignment" "isActive" "Z") ∈ lw_all := lw_g (lw_at lw_m2 105 rfl) rfl
theorem q401 : (Jvm.Cond.soleField "ChoreAssignment" "isActive") ∈ lw_all := lw_g (lw_at lw_m2 106 rfl) rfl
theorem q402 : (Jvm.Cond.lays "ChoreAssignment" "ChoreAssignment" "steps" "I") ∈ lw_all := lw_g (lw_at lw_m2 107 rfl) rfl
theorem q403 : (Jvm.Cond.soleField "ChoreAssignment" "steps") ∈ lw_all := lw_g (lw_at lw_m2 108 rfl) rfl
theorem q404 : (Jvm.Cond.lays "ChoreAssignment" "ChoreAssignment" "lastCode" "I") ∈ lw_all := lw_g (lw_at lw_m2 109 rfl) rfl
theorem q405 : (Jvm.Cond.soleField "ChoreAssignment" "lastCode") ∈ lw_all := lw_g (lw_at lw_m2 110 rfl) rfl
theorem q406 : (Jvm.Cond.superclass "ChoreAssignment" "java/lang/Object") ∈ lw_all := lw_g (lw_at lw_m2 111 rfl) rfl
theorem q408 : (Jvm.Cond.instanceMethod ({ cls := "ChoreAssignment", name := "save", desc := "()I" } : Jvm.MethodName)) ∈ lw_all := lw_g (lw_at lw_m2 113 rfl) rfl
theorem q409 : (Jvm.Cond.selects "ChoreAssignment" ({ cls := "ChoreAssignment", name := "save", desc := "()I" } : Jvm.MethodName) ({ cls := "ChoreAssignment", name := "save", desc := "()I" } : Jvm.MethodName)) ∈ lw_all := lw_g (lw_at lw_m2 114 rfl) rfl
theorem q410 : (Jvm.Cond.code ({ cls := "ChoreAssignment", name := "save", desc := "()I" } : Jvm.MethodName) prog_1_method_29_code (1 : Nat) (Option.some Jvm.ClassFile.FieldType.int)) ∈ lw_all := lw_g (lw_at lw_m2 115 rfl) rfl
theorem q411 : (Jvm.Cond.methodLink "ChoreAssignment" (227 : Nat) ({ cls := "ChoreAssignment", name := "copyOf", desc := "(Ljava/util/ArrayList;)Ljava/util/ArrayList;" } : Jvm.MethodName)) ∈ lw_all := lw_g (lw_at lw_m2 116 rfl) rfl
theorem q412 : (Jvm.Cond.static ({ cls := "ChoreAssignment", name := "copyOf", desc := "(Ljava/util/ArrayList;)Ljava/util/ArrayList;" } : Jvm.MethodName)) ∈ lw_all := lw_g (lw_at lw_m2 117 rfl) rfl
theorem q413 : (Jvm.Cond.code ({ cls := "ChoreAssignment", name := "copyOf", desc := "(Ljava/util/ArrayList;)Ljava/util/ArrayList;" } : Jvm.MethodName) prog_1_method_3_code (7 : Nat) (Option.some (Jvm.ClassFile.FieldType.object "java/util/ArrayList"))) ∈ lw_all := lw_g (lw_at lw_m2 118 rfl) rfl
theorem q414 : (Jvm.Cond.methodLink "ChoreAssignment" (104 : Nat) ({ cls := "java/util/ArrayList", name := "iterator", desc := "()Ljava/util/Iterator;" } : Jvm.MethodName)) ∈ lw_all := lw_g (lw_at lw_m2 119 rfl) rfl
theorem q437 : (Jvm.Cond.interfaceEntry "ChoreAssignment" (108 : Nat)) ∈ lw_tbl := lw_at lw_m2 142 rfl
theorem q438 : (Jvm.Cond.methodLink "ChoreAssignment" (108 : Nat) ({ cls := "java/util/Iterator", name := "hasNext", desc := "()Z" } : Jvm.MethodName)) ∈ lw_all := lw_g (lw_at lw_m2 143 rfl) rfl
theorem q447 : (Jvm.Cond.interfaceEntry "ChoreAssignment" (114 : Nat)) ∈ lw_tbl := lw_at lw_m2 152 rfl
theorem q448 : (Jvm.Cond.methodLink "ChoreAssignment" (114 : Nat) ({ cls := "java/util/Iterator", name := "next", desc := "()Ljava/lang/Object;" } : Jvm.MethodName)) ∈ lw_all := lw_g (lw_at lw_m2 153 rfl) rfl
theorem q475 : (Jvm.Cond.classLink "ChoreAssignment" (95 : Nat) "java/lang/Integer") ∈ lw_all := lw_g (lw_at lw_m2 180 rfl) rfl
theorem q476 : (Jvm.Cond.methodLink "ChoreAssignment" (231 : Nat) ({ cls := "ChoreAssignment", name := "totalCost", desc := "()I" } : Jvm.MethodName)) ∈ lw_all := lw_g (lw_at lw_m2 181 rfl) rfl
theorem q477 : (Jvm.Cond.instanceMethod ({ cls := "ChoreAssignment", name := "totalCost", desc := "()I" } : Jvm.MethodName)) ∈ lw_all := lw_g (lw_at lw_m2 182 rfl) rfl
theorem q478 : (Jvm.Cond.selects "ChoreAssignment" ({ cls := "ChoreAssignment", name := "totalCost", desc := "()I" } : Jvm.MethodName) ({ cls := "ChoreAssignment", name := "totalCost", desc := "()I" } : Jvm.MethodName)) ∈ lw_all := lw_g (lw_at lw_m2 183 rfl) rfl
theorem q479 : (Jvm.Cond.code ({ cls := "ChoreAssignment", name := "totalCost", desc := "()I" } : Jvm.MethodName) prog_1_method_35_code (3 : Nat) (Option.some Jvm.ClassFile.FieldType.int)) ∈ lw_all := lw_g (lw_at lw_m2 184 rfl) rfl
theorem q480 : (Jvm.Cond.methodLink "ChoreAssignment" (212 : Nat) ({ cls := "ChoreAssignment", name := "rowSum", desc := "(I)I" } : Jvm.MethodName)) ∈ lw_all := lw_g (lw_at lw_m2 185 rfl) rfl
theorem q481 : (Jvm.Cond.privateMethod ({ cls := "ChoreAssignment", name := "rowSum", desc := "(I)I" } : Jvm.MethodName)) ∈ lw_tbl := lw_at lw_m2 186 rfl
theorem q482 : (Jvm.Cond.instanceMethod ({ cls := "ChoreAssignment", name := "rowSum", desc := "(I)I" } : Jvm.MethodName)) ∈ lw_all := lw_g (lw_at lw_m2 187 rfl) rfl
theorem q483 : (Jvm.Cond.code ({ cls := "ChoreAssignment", name := "rowSum", desc := "(I)I" } : Jvm.MethodName) prog_1_method_22_code (5 : Nat) (Option.some Jvm.ClassFile.FieldType.int)) ∈ lw_all := lw_g (lw_at lw_m2 188 rfl) rfl
theorem q484 : (Jvm.Cond.methodLink "ChoreAssignment" (131 : Nat) ({ cls := "java/util/ArrayList", name := "get", desc := "(I)Ljava/lang/Object;" } : Jvm.MethodName)) ∈ lw_all := lw_g (lw_at lw_m2 189 rfl) rfl
theorem q498 : (Jvm.Cond.methodLink "ChoreAssignment" (135 : Nat) ({ cls := "java/lang/Integer", name := "intValue", desc := "()I" } : Jvm.MethodName)) ∈ lw_all := lw_g (lw_at lw_m2 203 rfl) rfl
theorem q502 : (Jvm.Cond.methodLink "ChoreAssignment" (139 : Nat) ({ cls := "ChoreAssignment", name := "costOf", desc := "(I)I" } : Jvm.MethodName)) ∈ lw_all := lw_g (lw_at lw_m2 207 rfl) rfl
theorem q503 : (Jvm.Cond.static ({ cls := "ChoreAssignment", name := "costOf", desc := "(I)I" } : Jvm.MethodName)) ∈ lw_all := lw_g (lw_at lw_m2 208 rfl) rfl
theorem q504 : (Jvm.Cond.code ({ cls := "ChoreAssignment", name := "costOf", desc := "(I)I" } : Jvm.MethodName) prog_1_method_4_code (1 : Nat) (Option.some Jvm.ClassFile.FieldType.int)) ∈ lw_all := lw_g (lw_at lw_m2 209 rfl) rfl
theorem q506 : (Jvm.Cond.instanceMethod ({ cls := "ChoreAssignment", name := "restore", desc := "()I" } : Jvm.MethodName)) ∈ lw_all := lw_g (lw_at lw_m2 211 rfl) rfl
theorem q507 : (Jvm.Cond.selects "ChoreAssignment" ({ cls := "ChoreAssignment", name := "restore", desc := "()I" } : Jvm.MethodName) ({ cls := "ChoreAssignment", name := "restore", desc := "()I" } : Jvm.MethodName)) ∈ lw_all := lw_g (lw_at lw_m2 212 rfl) rfl
theorem q508 : (Jvm.Cond.code ({ cls := "ChoreAssignment", name := "restore", desc := "()I" } : Jvm.MethodName) prog_1_method_30_code (1 : Nat) (Option.some Jvm.ClassFile.FieldType.int)) ∈ lw_all := lw_g (lw_at lw_m2 213 rfl) rfl
theorem q509 : (Jvm.Cond.methodLink "ChoreAssignment" (166 : Nat) ({ cls := "ChoreAssignment", name := "cancel", desc := "()V" } : Jvm.MethodName)) ∈ lw_all := lw_g (lw_at lw_m2 214 rfl) rfl
theorem q510 : (Jvm.Cond.privateMethod ({ cls := "ChoreAssignment", name := "cancel", desc := "()V" } : Jvm.MethodName)) ∈ lw_tbl := lw_at lw_m2 215 rfl
theorem q511 : (Jvm.Cond.instanceMethod ({ cls := "ChoreAssignment", name := "cancel", desc := "()V" } : Jvm.MethodName)) ∈ lw_all := lw_g (lw_at lw_m2 216 rfl) rfl
theorem q512 : (Jvm.Cond.code ({ cls := "ChoreAssignment", name := "cancel", desc := "()V" } : Jvm.MethodName) prog_1_method_15_code (1 : Nat) (Option.none : Option Jvm.ClassFile.FieldType)) ∈ lw_all := lw_g (lw_at lw_m2 217 rfl) rfl
theorem q513 : (Jvm.Cond.methodLink "ChoreAssignment" (157 : Nat) ({ cls := "java/util/PriorityQueue", name := "clear", desc := "()V" } : Jvm.MethodName)) ∈ lw_all := lw_g (lw_at lw_m2 218 rfl) rfl
theorem q518 : (Jvm.Cond.instanceMethod ({ cls := "ChoreAssignment", name := "distance", desc := "()I" } : Jvm.MethodName)) ∈ lw_all := lw_g (lw_at lw_m2 223 rfl) rfl
theorem q519 : (Jvm.Cond.selects "ChoreAssignment" ({ cls := "ChoreAssignment", name := "distance", desc := "()I" } : Jvm.MethodName) ({ cls := "ChoreAssignment", name := "distance", desc := "()I" } : Jvm.MethodName)) ∈ lw_all := lw_g (lw_at lw_m2 224 rfl) rfl
theorem q520 : (Jvm.Cond.code ({ cls := "ChoreAssignment", name := "distance", desc := "()I" } : Jvm.MethodName) prog_1_method_31_code (4 : Nat) (Option.some Jvm.ClassFile.FieldType.int)) ∈ lw_all := lw_g (lw_at lw_m2 225 rfl) rfl
theorem q521 : (Jvm.Cond.methodLink "ChoreAssignment" (204 : Nat) ({ cls := "ChoreAssignment", name := "costHere", desc := "(II)I" } : Jvm.MethodName)) ∈ lw_all := lw_g (lw_at lw_m2 226 rfl) rfl
theorem q522 : (Jvm.Cond.privateMethod ({ cls := "ChoreAssignment", name := "costHere", desc := "(II)I" } : Jvm.MethodName)) ∈ lw_tbl := lw_at lw_m2 227 rfl
theorem q523 : (Jvm.Cond.instanceMethod ({ cls := "ChoreAssignment", name := "costHere", desc := "(II)I" } : Jvm.MethodName)) ∈ lw_all := lw_g (lw_at lw_m2 228 rfl) rfl
theorem q524 : (Jvm.Cond.code ({ cls := "ChoreAssignment", name := "costHere", desc := "(II)I" } : Jvm.MethodName) prog_1_method_14_code (3 : Nat) (Option.some Jvm.ClassFile.FieldType.int)) ∈ lw_all := lw_g (lw_at lw_m2 229 rfl) rfl
theorem q525 : (Jvm.Cond.methodLink "ChoreAssignment" (143 : Nat) ({ cls := "ChoreAssignment", name := "costIn", desc := "(Ljava/util/ArrayList;III)I" } : Jvm.MethodName)) ∈ lw_all := lw_g (lw_at lw_m2 230 rfl) rfl
theorem q526 : (Jvm.Cond.privateMethod ({ cls := "ChoreAssignment", name := "costIn", desc := "(Ljava/util/ArrayList;III)I" } : Jvm.MethodName)) ∈ lw_tbl := lw_at lw_m2 231 rfl
theorem q527 : (Jvm.Cond.instanceMethod ({ cls := "ChoreAssignment", name := "costIn", desc := "(Ljava/util/ArrayList;III)I" } : Jvm.MethodName)) ∈ lw_all := lw_g (lw_at lw_m2 232 rfl) rfl
theorem q528 : (Jvm.Cond.code ({ cls := "ChoreAssignment", name := "costIn", desc := "(Ljava/util/ArrayList;III)I" } : Jvm.MethodName) prog_1_method_13_code (5 : Nat) (Option.some Jvm.ClassFile.FieldType.int)) ∈ lw_all := lw_g (lw_at lw_m2 233 rfl) rfl
theorem q529 : (Jvm.Cond.methodLink "ChoreAssignment" (234 : Nat) ({ cls := "java/lang/Math", name := "abs", desc := "(I)I" } : Jvm.MethodName)) ∈ lw_all := lw_g (lw_at lw_m2 234 rfl) rfl
theorem q533 : (Jvm.Cond.instanceMethod ({ cls := "ChoreAssignment", name := "rows", desc := "()I" } : Jvm.MethodName)) ∈ lw_all := lw_g (lw_at lw_m2 238 rfl) rfl
theorem q534 : (Jvm.Cond.selects "ChoreAssignment" ({ cls := "ChoreAssignment", name := "rows", desc := "()I" } : Jvm.MethodName) ({ cls := "ChoreAssignment", name := "rows", desc := "()I" } : Jvm.MethodName)) ∈ lw_all := lw_g (lw_at lw_m2 239 rfl) rfl
theorem q535 : (Jvm.Cond.code ({ cls := "ChoreAssignment", name := "rows", desc := "()I" } : Jvm.MethodName) prog_1_method_32_code (1 : Nat) (Option.some Jvm.ClassFile.FieldType.int)) ∈ lw_all := lw_g (lw_at lw_m3 0 rfl) rfl
theorem q537 : (Jvm.Cond.instanceMethod ({ cls := "ChoreAssignment", name := "columns", desc := "()I" } : Jvm.MethodName)) ∈ lw_all := lw_g (lw_at lw_m3 2 rfl) rfl
theorem q538 : (Jvm.Cond.selects "ChoreAssignment" ({ cls := "ChoreAssignment", name := "columns", desc := "()I" } : Jvm.MethodName) ({ cls := "ChoreAssignment", name := "columns", desc := "()I" } : Jvm.MethodName)) ∈ lw_all := lw_g (lw_at lw_m3 3 rfl) rfl
theorem q539 : (Jvm.Cond.code ({ cls := "ChoreAssignment", name := "columns", desc := "()I" } : Jvm.MethodName) prog_1_method_33_code (1 : Nat) (Option.some Jvm.ClassFile.FieldType.int)) ∈ lw_all := lw_g (lw_at lw_m3 4 rfl) rfl
theorem q541 : (Jvm.Cond.instanceMethod ({ cls := "ChoreAssignment", name := "forbiddenCount", desc := "()I" } : Jvm.MethodName)) ∈ lw_all := lw_g (lw_at lw_m3 6 rfl) rfl
theorem q542 : (Jvm.Cond.selects "ChoreAssignment" ({ cls := "ChoreAssignment", name := "forbiddenCount", desc := "()I" } : Jvm.MethodName) ({ cls := "ChoreAssignment", name := "forbiddenCount", desc := "()I" } : Jvm.MethodName)) ∈ lw_all := lw_g (lw_at lw_m3 7 rfl) rfl
theorem q543 : (Jvm.Cond.code ({ cls := "ChoreAssignment", name := "forbiddenCount", desc := "()I" } : Jvm.MethodName) prog_1_method_34_code (6 : Nat) (Option.some Jvm.ClassFile.FieldType.int)) ∈ lw_all := lw_g (lw_at lw_m3 8 rfl) rfl
theorem q546 : (Jvm.Cond.instanceMethod ({ cls := "ChoreAssignment", name := "minimum", desc := "()I" } : Jvm.MethodName)) ∈ lw_all := lw_g (lw_at lw_m3 11 rfl) rfl
theorem q547 : (Jvm.Cond.selects "ChoreAssignment" ({ cls := "ChoreAssignment", name := "minimum", desc := "()I" } : Jvm.MethodName) ({ cls := "ChoreAssignment", name := "minimum", desc := "()I" } : Jvm.MethodName)) ∈ lw_all := lw_g (lw_at lw_m3 12 rfl) rfl
theorem q548 : (Jvm.Cond.code ({ cls := "ChoreAssignment", name := "minimum", desc := "()I" } : Jvm.MethodName) prog_1_method_48_code (1 : Nat) (Option.some Jvm.ClassFile.FieldType.int)) ∈ lw_all := lw_g (lw_at lw_m3 13 rfl) rfl
theorem q549 : (Jvm.Cond.methodLink "ChoreAssignment" (284 : Nat) ({ cls := "ChoreAssignment", name := "load", desc := "()V" } : Jvm.MethodName)) ∈ lw_all := lw_g (lw_at lw_m3 14 rfl) rfl
theorem q550 : (Jvm.Cond.privateMethod ({ cls := "ChoreAssignment", name := "load", desc := "()V" } : Jvm.MethodName)) ∈ lw_tbl := lw_at lw_m3 15 rfl
theorem q551 : (Jvm.Cond.instanceMethod ({ cls := "ChoreAssignment", name := "load", desc := "()V" } : Jvm.MethodName)) ∈ lw_all := lw_g (lw_at lw_m3 16 rfl) rfl
theorem q552 : (Jvm.Cond.code ({ cls := "ChoreAssignment", name := "load", desc := "()V" } : Jvm.MethodName) prog_1_method_37_code (1 : Nat) (Option.none : Option Jvm.ClassFile.FieldType)) ∈ lw_all := lw_g (lw_at lw_m3 17 rfl) rfl
theorem q553 : (Jvm.Cond.methodLink "ChoreAssignment" (240 : Nat) ({ cls := "ChoreAssignment", name := "load", desc := "(Ljava/util/ArrayList;II)V" } : Jvm.MethodName)) ∈ lw_all := lw_g (lw_at lw_m3 18 rfl) rfl
theorem q554 : (Jvm.Cond.privateMethod ({ cls := "ChoreAssignment", name := "load", desc := "(Ljava/util/ArrayList;II)V" } : Jvm.MethodName)) ∈ lw_tbl := lw_at lw_m3 19 rfl
theorem q555 : (Jvm.Cond.instanceMethod ({ cls := "ChoreAssignment", name := "load", desc := "(Ljava/util/ArrayList;II)V" } : Jvm.MethodName)) ∈ lw_all := lw_g (lw_at lw_m3 20 rfl) rfl
theorem q556 : (Jvm.Cond.code ({ cls := "ChoreAssignment", name := "load", desc := "(Ljava/util/ArrayList;II)V" } : Jvm.MethodName) prog_1_method_36_code (6 : Nat) (Option.none : Option Jvm.ClassFile.FieldType)) ∈ lw_all := lw_g (lw_at lw_m3 21 rfl) rfl
theorem q557 : (Jvm.Cond.methodLink "ChoreAssignment" (286 : Nat) ({ cls := "ChoreAssignment", name := "solve", desc := "()I" } : Jvm.MethodName)) ∈ lw_all := lw_g (lw_at lw_m3 22 rfl) rfl
theorem q558 : (Jvm.Cond.privateMethod ({ cls := "ChoreAssignment", name := "solve", desc := "()I" } : Jvm.MethodName)) ∈ lw_tbl := lw_at lw_m3 23 rfl
theorem q559 : (Jvm.Cond.instanceMethod ({ cls := "ChoreAssignment", name := "solve", desc := "()I" } : Jvm.MethodName)) ∈ lw_all := lw_g (lw_at lw_m3 24 rfl) rfl
theorem q560 : (Jvm.Cond.code ({ cls := "ChoreAssignment", name := "solve", desc := "()I" } : Jvm.MethodName) prog_1_method_44_code (3 : Nat) (Option.some Jvm.ClassFile.FieldType.int)) ∈ lw_all := lw_g (lw_at lw_m3 25 rfl) rfl
theorem q561 : (Jvm.Cond.methodLink "ChoreAssignment" (277 : Nat) ({ cls := "ChoreAssignment", name := "augment", desc := "(I)V" } : Jvm.MethodName)) ∈ lw_all := lw_g (lw_at lw_m3 26 rfl) rfl
theorem q562 : (Jvm.Cond.privateMethod ({ cls := "ChoreAssignment", name := "augment", desc := "(I)V" } : Jvm.MethodName)) ∈ lw_tbl := lw_at lw_m3 27 rfl
theorem q563 : (Jvm.Cond.instanceMethod ({ cls := "ChoreAssignment", name := "augment", desc := "(I)V" } : Jvm.MethodName)) ∈ lw_all := lw_g (lw_at lw_m3 28 rfl) rfl
theorem q564 : (Jvm.Cond.code ({ cls := "ChoreAssignment", name := "augment", desc := "(I)V" } : Jvm.MethodName) prog_1_method_43_code (8 : Nat) (Option.none : Option Jvm.ClassFile.FieldType)) ∈ lw_all := lw_g (lw_at lw_m3 29 rfl) rfl
theorem q565 : (Jvm.Cond.constant "ChoreAssignment" (255 : Nat) (1048576 : Int32)) ∈ lw_all := lw_g (lw_at lw_m3 30 rfl) rfl
theorem q566 : (Jvm.Cond.methodLink "ChoreAssignment" (190 : Nat) ({ cls := "java/lang/Math", name := "min", desc := "(II)I" } : Jvm.MethodName)) ∈ lw_all := lw_g (lw_at lw_m3 31 rfl) rfl
theorem q567 : (Jvm.Cond.methodLink "ChoreAssignment" (268 : Nat) ({ cls := "ChoreAssignment", name := "beginPaths", desc := "()V" } : Jvm.MethodName)) ∈ lw_all := lw_g (lw_at lw_m3 32 rfl) rfl
theorem q568 : (Jvm.Cond.privateMethod ({ cls := "ChoreAssignment", name := "beginPaths", desc := "()V" } : Jvm.MethodName)) ∈ lw_tbl := lw_at lw_m3 33 rfl
theorem q569 : (Jvm.Cond.instanceMethod ({ cls := "ChoreAssignment", name := "beginPaths", desc := "()V" } : Jvm.MethodName)) ∈ lw_all := lw_g (lw_at lw_m3 34 rfl) rfl
theorem q570 : (Jvm.Cond.code ({ cls := "ChoreAssignment", name := "beginPaths", desc := "()V" } : Jvm.MethodName) prog_1_method_40_code (2 : Nat) (Option.none : Option Jvm.ClassFile.FieldType)) ∈ lw_all := lw_g (lw_at lw_m3 35 rfl) rfl
theorem q571 : (Jvm.Cond.methodLink "ChoreAssignment" (271 : Nat) ({ cls := "ChoreAssignment", name := "relaxColumns", desc := "(II)V" } : Jvm.MethodName)) ∈ lw_all := lw_g (lw_at lw_m3 36 rfl) rfl
theorem q572 : (Jvm.Cond.privateMethod ({ cls := "ChoreAssignment", name := "relaxColumns", desc := "(II)V" } : Jvm.MethodName)) ∈ lw_tbl := lw_at lw_m3 37 rfl
theorem q573 : (Jvm.Cond.instanceMethod ({ cls := "ChoreAssignment", name := "relaxColumns", desc := "(II)V" } : Jvm.MethodName)) ∈ lw_all := lw_g (lw_at lw_m3 38 rfl) rfl
theorem q574 : (Jvm.Cond.code ({ cls := "ChoreAssignment", name := "relaxColumns", desc := "(II)V" } : Jvm.MethodName) prog_1_method_42_code (5 : Nat) (Option.none : Option Jvm.ClassFile.FieldType)) ∈ lw_all := lw_g (lw_at lw_m3 39 rfl) rfl
theorem q575 : (Jvm.Cond.methodLink "ChoreAssignment" (262 : Nat) ({ cls := "ChoreAssignment", name := "reducedHere", desc := "(II)I" } : Jvm.MethodName)) ∈ lw_all := lw_g (lw_at lw_m3 40 rfl) rfl
theorem q576 : (Jvm.Cond.privateMethod ({ cls := "ChoreAssignment", name := "reducedHere", desc := "(II)I" } : Jvm.MethodName)) ∈ lw_tbl := lw_at lw_m3 41 rfl
theorem q577 : (Jvm.Cond.instanceMethod ({ cls := "ChoreAssignment", name := "reducedHere", desc := "(II)I" } : Jvm.MethodName)) ∈ lw_all := lw_g (lw_at lw_m3 42 rfl) rfl
theorem q578 : (Jvm.Cond.code ({ cls := "ChoreAssignment", name := "reducedHere", desc := "(II)I" } : Jvm.MethodName) prog_1_method_38_code (3 : Nat) (Option.some Jvm.ClassFile.FieldType.int)) ∈ lw_all := lw_g (lw_at lw_m3 43 rfl) rfl
theorem q579 : (Jvm.Cond.methodLink "ChoreAssignment" (265 : Nat) ({ cls := "ChoreAssignment", name := "offer", desc := "(II)V" } : Jvm.MethodName)) ∈ lw_all := lw_g (lw_at lw_m3 44 rfl) rfl
theorem q580 : (Jvm.Cond.privateMethod ({ cls := "ChoreAssignment", name := "offer", desc := "(II)V" } : Jvm.MethodName)) ∈ lw_tbl := lw_at lw_m3 45 rfl
theorem q581 : (Jvm.Cond.instanceMethod ({ cls := "ChoreAssignment", name := "offer", desc := "(II)V" } : Jvm.MethodName)) ∈ lw_all := lw_g (lw_at lw_m3 46 rfl) rfl
theorem q582 : (Jvm.Cond.code ({ cls := "ChoreAssignment", name := "offer", desc := "(II)V" } : Jvm.MethodName) prog_1_method_39_code (3 : Nat) (Option.none : Option Jvm.ClassFile.FieldType)) ∈ lw_all := lw_g (lw_at lw_m3 47 rfl) rfl
theorem q583 : (Jvm.Cond.classLink "ChoreAssignment" (247 : Nat) "ChoreAssignment$Way") ∈ lw_all := lw_g (lw_at lw_m3 48 rfl) rfl
theorem q585 : (Jvm.Cond.methodLink "ChoreAssignment" (249 : Nat) ({ cls := "ChoreAssignment$Way", name := "<init>", desc := "(III)V" } : Jvm.MethodName)) ∈ lw_all := lw_g (lw_at lw_m3 50 rfl) rfl
theorem q594 : (Jvm.Cond.fieldLinkNest "ChoreAssignment" (259 : Nat) "ChoreAssignment$Way" "end" "I" "ChoreAssignment") ∈ lw_tbl := lw_at lw_m3 59 rfl
theorem q602 : (Jvm.Cond.methodLink "ChoreAssignment" (252 : Nat) ({ cls := "java/util/PriorityQueue", name := "offer", desc := "(Ljava/lang/Object;)Z" } : Jvm.MethodName)) ∈ lw_all := lw_g (lw_at lw_m3 67 rfl) rfl
theorem q877 : (Jvm.Cond.methodLink "ChoreAssignment" (274 : Nat) ({ cls := "ChoreAssignment", name := "settleNext", desc := "()I" } : Jvm.MethodName)) ∈ lw_all := lw_g (lw_at lw_m4 102 rfl) rfl
theorem q878 : (Jvm.Cond.privateMethod ({ cls := "ChoreAssignment", name := "settleNext", desc := "()I" } : Jvm.MethodName)) ∈ lw_tbl := lw_at lw_m4 103 rfl
theorem q879 : (Jvm.Cond.instanceMethod ({ cls := "ChoreAssignment", name := "settleNext", desc := "()I" } : Jvm.MethodName)) ∈ lw_all := lw_g (lw_at lw_m4 104 rfl) rfl
theorem q880 : (Jvm.Cond.code ({ cls := "ChoreAssignment", name := "settleNext", desc := "()I" } : Jvm.MethodName) prog_1_method_41_code (2 : Nat) (Option.some Jvm.ClassFile.FieldType.int)) ∈ lw_all := lw_g (lw_at lw_m4 105 rfl) rfl
theorem q881 : (Jvm.Cond.methodLink "ChoreAssignment" (256 : Nat) ({ cls := "java/util/PriorityQueue", name := "poll", desc := "()Ljava/lang/Object;" } : Jvm.MethodName)) ∈ lw_all := lw_g (lw_at lw_m4 106 rfl) rfl
theorem q892 : (Jvm.Cond.instanceMethod ({ cls := "ChoreAssignment", name := "savedMinimum", desc := "()I" } : Jvm.MethodName)) ∈ lw_all := lw_g (lw_at lw_m4 117 rfl) rfl
theorem q893 : (Jvm.Cond.selects "ChoreAssignment" ({ cls := "ChoreAssignment", name := "savedMinimum", desc := "()I" } : Jvm.MethodName) ({ cls := "ChoreAssignment", name := "savedMinimum", desc := "()I" } : Jvm.MethodName)) ∈ lw_all := lw_g (lw_at lw_m4 118 rfl) rfl
theorem q894 : (Jvm.Cond.code ({ cls := "ChoreAssignment", name := "savedMinimum", desc := "()I" } : Jvm.MethodName) prog_1_method_49_code (1 : Nat) (Option.some Jvm.ClassFile.FieldType.int)) ∈ lw_all := lw_g (lw_at lw_m4 119 rfl) rfl
theorem q896 : (Jvm.Cond.instanceMethod ({ cls := "ChoreAssignment", name := "optimalCount", desc := "()I" } : Jvm.MethodName)) ∈ lw_all := lw_g (lw_at lw_m4 121 rfl) rfl
theorem q897 : (Jvm.Cond.selects "ChoreAssignment" ({ cls := "ChoreAssignment", name := "optimalCount", desc := "()I" } : Jvm.MethodName) ({ cls := "ChoreAssignment", name := "optimalCount", desc := "()I" } : Jvm.MethodName)) ∈ lw_all := lw_g (lw_at lw_m4 122 rfl) rfl
theorem q898 : (Jvm.Cond.code ({ cls := "ChoreAssignment", name := "optimalCount", desc := "()I" } : Jvm.MethodName) prog_1_method_51_code (1 : Nat) (Option.some Jvm.ClassFile.FieldType.int)) ∈ lw_all := lw_g (lw_at lw_m4 123 rfl) rfl
theorem q899 : (Jvm.Cond.methodLink "ChoreAssignment" (289 : Nat) ({ cls := "ChoreAssignment", name := "countOptimal", desc := "()V" } : Jvm.MethodName)) ∈ lw_all := lw_g (lw_at lw_m4 124 rfl) rfl
theorem q900 : (Jvm.Cond.privateMethod ({ cls := "ChoreAssignment", name := "countOptimal", desc := "()V" } : Jvm.MethodName)) ∈ lw_tbl := lw_at lw_m4 125 rfl
theorem q901 : (Jvm.Cond.instanceMethod ({ cls := "ChoreAssignment", name := "countOptimal", desc := "()V" } : Jvm.MethodName)) ∈ lw_all := lw_g (lw_at lw_m4 126 rfl) rfl
theorem q902 : (Jvm.Cond.code ({ cls := "ChoreAssignment", name := "countOptimal", desc := "()V" } : Jvm.MethodName) prog_1_method_45_code (7 : Nat) (Option.none : Option Jvm.ClassFile.FieldType)) ∈ lw_all := lw_g (lw_at lw_m4 127 rfl) rfl
theorem q903 : (Jvm.Cond.methodLink "ChoreAssignment" (281 : Nat) ({ cls := "java/lang/Integer", name := "bitCount", desc := "(I)I" } : Jvm.MethodName)) ∈ lw_all := lw_g (lw_at lw_m4 128 rfl) rfl
theorem q910 : (Jvm.Cond.instanceMethod ({ cls := "ChoreAssignment", name := "secondBest", desc := "()I" } : Jvm.MethodName)) ∈ lw_all := lw_g (lw_at lw_m4 135 rfl) rfl
theorem q911 : (Jvm.Cond.selects "ChoreAssignment" ({ cls := "ChoreAssignment", name := "secondBest", desc := "()I" } : Jvm.MethodName) ({ cls := "ChoreAssignment", name := "secondBest", desc := "()I" } : Jvm.MethodName)) ∈ lw_all := lw_g (lw_at lw_m4 136 rfl) rfl
theorem q912 : (Jvm.Cond.code ({ cls := "ChoreAssignment", name := "secondBest", desc := "()I" } : Jvm.MethodName) prog_1_method_58_code (4 : Nat) (Option.some Jvm.ClassFile.FieldType.int)) ∈ lw_all := lw_g (lw_at lw_m4 137 rfl) rfl
theorem q913 : (Jvm.Cond.methodLink "ChoreAssignment" (292 : Nat) ({ cls := "ChoreAssignment", name := "findFirst", desc := "()I" } : Jvm.MethodName)) ∈ lw_all := lw_g (lw_at lw_m4 138 rfl) rfl
theorem q914 : (Jvm.Cond.privateMethod ({ cls := "ChoreAssignment", name := "findFirst", desc := "()I" } : Jvm.MethodName)) ∈ lw_tbl := lw_at lw_m4 139 rfl
theorem q915 : (Jvm.Cond.instanceMethod ({ cls := "ChoreAssignment", name := "findFirst", desc := "()I" } : Jvm.MethodName)) ∈ lw_all := lw_g (lw_at lw_m4 140 rfl) rfl
theorem q916 : (Jvm.Cond.code ({ cls := "ChoreAssignment", name := "findFirst", desc := "()I" } : Jvm.MethodName) prog_1_method_46_code (5 : Nat) (Option.some Jvm.ClassFile.FieldType.int)) ∈ lw_all := lw_g (lw_at lw_m4 141 rfl) rfl
theorem q917 : (Jvm.Cond.methodLink "ChoreAssignment" (298 : Nat) ({ cls := "ChoreAssignment", name := "minimumWithout", desc := "(II)I" } : Jvm.MethodName)) ∈ lw_all := lw_g (lw_at lw_m4 142 rfl) rfl
theorem q918 : (Jvm.Cond.instanceMethod ({ cls := "ChoreAssignment", name := "minimumWithout", desc := "(II)I" } : Jvm.MethodName)) ∈ lw_all := lw_g (lw_at lw_m4 143 rfl) rfl
theorem q919 : (Jvm.Cond.selects "ChoreAssignment" ({ cls := "ChoreAssignment", name := "minimumWithout", desc := "(II)I" } : Jvm.MethodName) ({ cls := "ChoreAssignment", name := "minimumWithout", desc := "(II)I" } : Jvm.MethodName)) ∈ lw_all := lw_g (lw_at lw_m4 144 rfl) rfl
theorem q920 : (Jvm.Cond.code ({ cls := "ChoreAssignment", name := "minimumWithout", desc := "(II)I" } : Jvm.MethodName) prog_1_method_56_code (3 : Nat) (Option.some Jvm.ClassFile.FieldType.int)) ∈ lw_all := lw_g (lw_at lw_m4 145 rfl) rfl
theorem q921 : (Jvm.Cond.methodLink "ChoreAssignment" (169 : Nat) ({ cls := "ChoreAssignment", name := "isRow", desc := "(I)Z" } : Jvm.MethodName)) ∈ lw_all := lw_g (lw_at lw_m4 146 rfl) rfl
theorem q922 : (Jvm.Cond.privateMethod ({ cls := "ChoreAssignment", name := "isRow", desc := "(I)Z" } : Jvm.MethodName)) ∈ lw_tbl := lw_at lw_m4 147 rfl
theorem q923 : (Jvm.Cond.instanceMethod ({ cls := "ChoreAssignment", name := "isRow", desc := "(I)Z" } : Jvm.MethodName)) ∈ lw_all := lw_g (lw_at lw_m4 148 rfl) rfl
theorem q924 : (Jvm.Cond.code ({ cls := "ChoreAssignment", name := "isRow", desc := "(I)Z" } : Jvm.MethodName) prog_1_method_10_code (2 : Nat) (Option.some Jvm.ClassFile.FieldType.boolean)) ∈ lw_all := lw_g (lw_at lw_m4 149 rfl) rfl
theorem q925 : (Jvm.Cond.methodLink "ChoreAssignment" (127 : Nat) ({ cls := "ChoreAssignment", name := "isIn", desc := "(JJJ)Z" } : Jvm.MethodName)) ∈ lw_all := lw_g (lw_at lw_m4 150 rfl) rfl
theorem q926 : (Jvm.Cond.static ({ cls := "ChoreAssignment", name := "isIn", desc := "(JJJ)Z" } : Jvm.MethodName)) ∈ lw_all := lw_g (lw_at lw_m4 151 rfl) rfl
theorem q927 : (Jvm.Cond.code ({ cls := "ChoreAssignment", name := "isIn", desc := "(JJJ)Z" } : Jvm.MethodName) prog_1_method_6_code (6 : Nat) (Option.some Jvm.ClassFile.FieldType.boolean)) ∈ lw_all := lw_g (lw_at lw_m4 152 rfl) rfl
theorem q928 : (Jvm.Cond.methodLink "ChoreAssignment" (176 : Nat) ({ cls := "ChoreAssignment", name := "needPlace", desc := "(Z)V" } : Jvm.MethodName)) ∈ lw_all := lw_g (lw_at lw_m4 153 rfl) rfl
theorem q929 : (Jvm.Cond.static ({ cls := "ChoreAssignment", name := "needPlace", desc := "(Z)V" } : Jvm.MethodName)) ∈ lw_all := lw_g (lw_at lw_m4 154 rfl) rfl
theorem q930 : (Jvm.Cond.code ({ cls := "ChoreAssignment", name := "needPlace", desc := "(Z)V" } : Jvm.MethodName) prog_1_method_7_code (1 : Nat) (Option.none : Option Jvm.ClassFile.FieldType)) ∈ lw_all := lw_g (lw_at lw_m4 155 rfl) rfl
theorem q931 : (Jvm.Cond.classLink "ChoreAssignment" (118 : Nat) "java/lang/IndexOutOfBoundsException") ∈ lw_all := lw_g (lw_at lw_m4 156 rfl) rfl
theorem q940 : (Jvm.Cond.methodLink "ChoreAssignment" (120 : Nat) ({ cls := "java/lang/IndexOutOfBoundsException", name := "<init>", desc := "()V" } : Jvm.MethodName)) ∈ lw_all := lw_g (lw_at lw_m4 165 rfl) rfl
theorem q947 : (Jvm.Cond.instanceMethod ({ cls := "ChoreAssignment", name := "maximum", desc := "()I" } : Jvm.MethodName)) ∈ lw_all := lw_g (lw_at lw_m4 172 rfl) rfl
theorem q948 : (Jvm.Cond.selects "ChoreAssignment" ({ cls := "ChoreAssignment", name := "maximum", desc := "()I" } : Jvm.MethodName) ({ cls := "ChoreAssignment", name := "maximum", desc := "()I" } : Jvm.MethodName)) ∈ lw_all := lw_g (lw_at lw_m4 173 rfl) rfl
theorem q949 : (Jvm.Cond.code ({ cls := "ChoreAssignment", name := "maximum", desc := "()I" } : Jvm.MethodName) prog_1_method_59_code (4 : Nat) (Option.some Jvm.ClassFile.FieldType.int)) ∈ lw_all := lw_g (lw_at lw_m4 174 rfl) rfl
theorem q951 : (Jvm.Cond.instanceMethod ({ cls := "ChoreAssignment", name := "bottleneck", desc := "()I" } : Jvm.MethodName)) ∈ lw_all := lw_g (lw_at lw_m4 176 rfl) rfl
theorem q952 : (Jvm.Cond.selects "ChoreAssignment" ({ cls := "ChoreAssignment", name := "bottleneck", desc := "()I" } : Jvm.MethodName) ({ cls := "ChoreAssignment", name := "bottleneck", desc := "()I" } : Jvm.MethodName)) ∈ lw_all := lw_g (lw_at lw_m4 177 rfl) rfl
theorem q953 : (Jvm.Cond.code ({ cls := "ChoreAssignment", name := "bottleneck", desc := "()I" } : Jvm.MethodName) prog_1_method_62_code (4 : Nat) (Option.some Jvm.ClassFile.FieldType.int)) ∈ lw_all := lw_g (lw_at lw_m4 178 rfl) rfl
theorem q954 : (Jvm.Cond.methodLink "ChoreAssignment" (305 : Nat) ({ cls := "ChoreAssignment", name := "isEnough", desc := "(I)Z" } : Jvm.MethodName)) ∈ lw_all := lw_g (lw_at lw_m4 179 rfl) rfl
theorem q955 : (Jvm.Cond.privateMethod ({ cls := "ChoreAssignment", name := "isEnough", desc := "(I)Z" } : Jvm.MethodName)) ∈ lw_tbl := lw_at lw_m4 180 rfl
theorem q956 : (Jvm.Cond.instanceMethod ({ cls := "ChoreAssignment", name := "isEnough", desc := "(I)Z" } : Jvm.MethodName)) ∈ lw_all := lw_g (lw_at lw_m4 181 rfl) rfl
theorem q957 : (Jvm.Cond.code ({ cls := "ChoreAssignment", name := "isEnough", desc := "(I)Z" } : Jvm.MethodName) prog_1_method_61_code (5 : Nat) (Option.some Jvm.ClassFile.FieldType.boolean)) ∈ lw_all := lw_g (lw_at lw_m4 182 rfl) rfl
theorem q958 : (Jvm.Cond.methodLink "ChoreAssignment" (301 : Nat) ({ cls := "ChoreAssignment", name := "seeks", desc := "(II)Z" } : Jvm.MethodName)) ∈ lw_all := lw_g (lw_at lw_m4 183 rfl) rfl
theorem q959 : (Jvm.Cond.privateMethod ({ cls := "ChoreAssignment", name := "seeks", desc := "(II)Z" } : Jvm.MethodName)) ∈ lw_tbl := lw_at lw_m4 184 rfl
theorem q960 : (Jvm.Cond.instanceMethod ({ cls := "ChoreAssignment", name := "seeks", desc := "(II)Z" } : Jvm.MethodName)) ∈ lw_all := lw_g (lw_at lw_m4 185 rfl) rfl
theorem q961 : (Jvm.Cond.code ({ cls := "ChoreAssignment", name := "seeks", desc := "(II)Z" } : Jvm.MethodName) prog_1_method_60_code (4 : Nat) (Option.some Jvm.ClassFile.FieldType.boolean)) ∈ lw_all := lw_g (lw_at lw_m4 186 rfl) rfl
theorem q963 : (Jvm.Cond.instanceMethod ({ cls := "ChoreAssignment", name := "stepsMade", desc := "()I" } : Jvm.MethodName)) ∈ lw_all := lw_g (lw_at lw_m4 188 rfl) rfl
theorem q964 : (Jvm.Cond.selects "ChoreAssignment" ({ cls := "ChoreAssignment", name := "stepsMade", desc := "()I" } : Jvm.MethodName) ({ cls := "ChoreAssignment", name := "stepsMade", desc := "()I" } : Jvm.MethodName)) ∈ lw_all := lw_g (lw_at lw_m4 189 rfl) rfl
theorem q965 : (Jvm.Cond.code ({ cls := "ChoreAssignment", name := "stepsMade", desc := "()I" } : Jvm.MethodName) prog_1_method_71_code (1 : Nat) (Option.some Jvm.ClassFile.FieldType.int)) ∈ lw_all := lw_g (lw_at lw_m4 190 rfl) rfl
theorem q967 : (Jvm.Cond.instanceMethod ({ cls := "ChoreAssignment", name := "meanCost", desc := "()D" } : Jvm.MethodName)) ∈ lw_all := lw_g (lw_at lw_m4 192 rfl) rfl
theorem q968 : (Jvm.Cond.selects "ChoreAssignment" ({ cls := "ChoreAssignment", name := "meanCost", desc := "()D" } : Jvm.MethodName) ({ cls := "ChoreAssignment", name := "meanCost", desc := "()D" } : Jvm.MethodName)) ∈ lw_all := lw_g (lw_at lw_m4 193 rfl) rfl
theorem q969 : (Jvm.Cond.code ({ cls := "ChoreAssignment", name := "meanCost", desc := "()D" } : Jvm.MethodName) prog_1_method_72_code (1 : Nat) (Option.some Jvm.ClassFile.FieldType.double)) ∈ lw_all := lw_g (lw_at lw_m4 194 rfl) rfl
theorem q971 : (Jvm.Cond.instanceMethod ({ cls := "ChoreAssignment", name := "checksum", desc := "()J" } : Jvm.MethodName)) ∈ lw_all := lw_g (lw_at lw_m4 196 rfl) rfl
theorem q972 : (Jvm.Cond.selects "ChoreAssignment" ({ cls := "ChoreAssignment", name := "checksum", desc := "()J" } : Jvm.MethodName) ({ cls := "ChoreAssignment", name := "checksum", desc := "()J" } : Jvm.MethodName)) ∈ lw_all := lw_g (lw_at lw_m4 197 rfl) rfl
theorem q973 : (Jvm.Cond.code ({ cls := "ChoreAssignment", name := "checksum", desc := "()J" } : Jvm.MethodName) prog_1_method_74_code (8 : Nat) (Option.some Jvm.ClassFile.FieldType.long)) ∈ lw_all := lw_g (lw_at lw_m4 198 rfl) rfl
theorem q974 : (Jvm.Cond.constantLong "ChoreAssignment" (348 : Nat) (17 : Int64)) ∈ lw_all := lw_g (lw_at lw_m4 199 rfl) rfl
theorem q975 : (Jvm.Cond.methodLink "ChoreAssignment" (201 : Nat) ({ cls := "ChoreAssignment", name := "forbiddenCount", desc := "()I" } : Jvm.MethodName)) ∈ lw_all := lw_g (lw_at lw_m4 200 rfl) rfl
theorem q976 : (Jvm.Cond.methodLink "ChoreAssignment" (350 : Nat) ({ cls := "ChoreAssignment", name := "stepsMade", desc := "()I" } : Jvm.MethodName)) ∈ lw_all := lw_g (lw_at lw_m4 201 rfl) rfl
theorem q977 : (Jvm.Cond.constantLong "ChoreAssignment" (353 : Nat) (31 : Int64)) ∈ lw_all := lw_g (lw_at lw_m4 202 rfl) rfl
theorem q979 : (Jvm.Cond.instanceMethod ({ cls := "ChoreAssignment", name := "isSound", desc := "()Z" } : Jvm.MethodName)) ∈ lw_all := lw_g (lw_at lw_m4 204 rfl) rfl
theorem q980 : (Jvm.Cond.selects "ChoreAssignment" ({ cls := "ChoreAssignment", name := "isSound", desc := "()Z" } : Jvm.MethodName) ({ cls := "ChoreAssignment", name := "isSound", desc := "()Z" } : Jvm.MethodName)) ∈ lw_all := lw_g (lw_at lw_m4 205 rfl) rfl
theorem q981 : (Jvm.Cond.code ({ cls := "ChoreAssignment", name := "isSound", desc := "()Z" } : Jvm.MethodName) prog_1_method_75_code (8 : Nat) (Option.some Jvm.ClassFile.FieldType.boolean)) ∈ lw_all := lw_g (lw_at lw_m4 206 rfl) rfl
theorem q982 : (Jvm.Cond.methodLink "ChoreAssignment" (295 : Nat) ({ cls := "ChoreAssignment", name := "findPotentials", desc := "()I" } : Jvm.MethodName)) ∈ lw_all := lw_g (lw_at lw_m4 207 rfl) rfl
theorem q983 : (Jvm.Cond.privateMethod ({ cls := "ChoreAssignment", name := "findPotentials", desc := "()I" } : Jvm.MethodName)) ∈ lw_tbl := lw_at lw_m4 208 rfl
theorem q984 : (Jvm.Cond.instanceMethod ({ cls := "ChoreAssignment", name := "findPotentials", desc := "()I" } : Jvm.MethodName)) ∈ lw_all := lw_g (lw_at lw_m4 209 rfl) rfl
theorem q985 : (Jvm.Cond.code ({ cls := "ChoreAssignment", name := "findPotentials", desc := "()I" } : Jvm.MethodName) prog_1_method_47_code (5 : Nat) (Option.some Jvm.ClassFile.FieldType.int)) ∈ lw_all := lw_g (lw_at lw_m4 210 rfl) rfl
theorem q986 : (Jvm.Cond.methodLink "ChoreAssignment" (355 : Nat) ({ cls := "ChoreAssignment", name := "minimumWith", desc := "(II)I" } : Jvm.MethodName)) ∈ lw_all := lw_g (lw_at lw_m4 211 rfl) rfl
theorem q987 : (Jvm.Cond.instanceMethod ({ cls := "ChoreAssignment", name := "minimumWith", desc := "(II)I" } : Jvm.MethodName)) ∈ lw_all := lw_g (lw_at lw_m4 212 rfl) rfl
theorem q988 : (Jvm.Cond.selects "ChoreAssignment" ({ cls := "ChoreAssignment", name := "minimumWith", desc := "(II)I" } : Jvm.MethodName) ({ cls := "ChoreAssignment", name := "minimumWith", desc := "(II)I" } : Jvm.MethodName)) ∈ lw_all := lw_g (lw_at lw_m4 213 rfl) rfl
theorem q989 : (Jvm.Cond.code ({ cls := "ChoreAssignment", name := "minimumWith", desc := "(II)I" } : Jvm.MethodName) prog_1_method_55_code (4 : Nat) (Option.some Jvm.ClassFile.FieldType.int)) ∈ lw_all := lw_g (lw_at lw_m4 214 rfl) rfl
theorem q990 : (Jvm.Cond.methodLink "ChoreAssignment" (358 : Nat) ({ cls := "ChoreAssignment", name := "bottleneck", desc := "()I" } : Jvm.MethodName)) ∈ lw_all := lw_g (lw_at lw_m4 215 rfl) rfl
theorem q996 : (Jvm.Cond.instanceMethod ({ cls := "ChoreAssignment", name := "resize", desc := "(II)I" } : Jvm.MethodName)) ∈ lw_all := lw_g (lw_at lw_m4 221 rfl) rfl
theorem q997 : (Jvm.Cond.selects "ChoreAssignment" ({ cls := "ChoreAssignment", name := "resize", desc := "(II)I" } : Jvm.MethodName) ({ cls := "ChoreAssignment", name := "resize", desc := "(II)I" } : Jvm.MethodName)) ∈ lw_all := lw_g (lw_at lw_m4 222 rfl) rfl
theorem q998 : (Jvm.Cond.code ({ cls := "ChoreAssignment", name := "resize", desc := "(II)I" } : Jvm.MethodName) prog_1_method_16_code (3 : Nat) (Option.some Jvm.ClassFile.FieldType.int)) ∈ lw_all := lw_g (lw_at lw_m4 223 rfl) rfl
theorem q999 : (Jvm.Cond.constantLong "ChoreAssignment" (160 : Nat) (7 : Int64)) ∈ lw_all := lw_g (lw_at lw_m4 224 rfl) rfl
theorem q1000 : (Jvm.Cond.methodLink "ChoreAssignment" (162 : Nat) ({ cls := "ChoreAssignment", name := "needNumber", desc := "(Z)V" } : Jvm.MethodName)) ∈ lw_all := lw_g (lw_at lw_m4 225 rfl) rfl
theorem q1001 : (Jvm.Cond.static ({ cls := "ChoreAssignment", name := "needNumber", desc := "(Z)V" } : Jvm.MethodName)) ∈ lw_all := lw_g (lw_at lw_m4 226 rfl) rfl
theorem q1002 : (Jvm.Cond.code ({ cls := "ChoreAssignment", name := "needNumber", desc := "(Z)V" } : Jvm.MethodName) prog_1_method_8_code (1 : Nat) (Option.none : Option Jvm.ClassFile.FieldType)) ∈ lw_all := lw_g (lw_at lw_m4 227 rfl) rfl
theorem q1003 : (Jvm.Cond.classLink "ChoreAssignment" (121 : Nat) "java/lang/IllegalArgumentException") ∈ lw_all := lw_g (lw_at lw_m4 228 rfl) rfl
theorem q1004 : (Jvm.Cond.methodLink "ChoreAssignment" (123 : Nat) ({ cls := "java/lang/IllegalArgumentException", name := "<init>", desc := "()V" } : Jvm.MethodName)) ∈ lw_all := lw_g (lw_at lw_m4 229 rfl) rfl
theorem q1042 : (Jvm.Cond.instanceMethod ({ cls := "ChoreAssignment", name := "setCost", desc := "(III)I" } : Jvm.MethodName)) ∈ lw_all := lw_g (lw_at lw_m5 27 rfl) rfl
theorem q1043 : (Jvm.Cond.selects "ChoreAssignment" ({ cls := "ChoreAssignment", name := "setCost", desc := "(III)I" } : Jvm.MethodName) ({ cls := "ChoreAssignment", name := "setCost", desc := "(III)I" } : Jvm.MethodName)) ∈ lw_all := lw_g (lw_at lw_m5 28 rfl) rfl
theorem q1044 : (Jvm.Cond.code ({ cls := "ChoreAssignment", name := "setCost", desc := "(III)I" } : Jvm.MethodName) prog_1_method_17_code (6 : Nat) (Option.some Jvm.ClassFile.FieldType.int)) ∈ lw_all := lw_g (lw_at lw_m5 29 rfl) rfl
theorem q1045 : (Jvm.Cond.methodLink "ChoreAssignment" (173 : Nat) ({ cls := "ChoreAssignment", name := "isReal", desc := "(I)Z" } : Jvm.MethodName)) ∈ lw_all := lw_g (lw_at lw_m5 30 rfl) rfl
theorem q1046 : (Jvm.Cond.privateMethod ({ cls := "ChoreAssignment", name := "isReal", desc := "(I)Z" } : Jvm.MethodName)) ∈ lw_tbl := lw_at lw_m5 31 rfl
theorem q1047 : (Jvm.Cond.instanceMethod ({ cls := "ChoreAssignment", name := "isReal", desc := "(I)Z" } : Jvm.MethodName)) ∈ lw_all := lw_g (lw_at lw_m5 32 rfl) rfl
theorem q1048 : (Jvm.Cond.code ({ cls := "ChoreAssignment", name := "isReal", desc := "(I)Z" } : Jvm.MethodName) prog_1_method_11_code (2 : Nat) (Option.some Jvm.ClassFile.FieldType.boolean)) ∈ lw_all := lw_g (lw_at lw_m5 33 rfl) rfl
theorem q1049 : (Jvm.Cond.constantLong "ChoreAssignment" (179 : Nat) (99 : Int64)) ∈ lw_all := lw_g (lw_at lw_m5 34 rfl) rfl
theorem q1050 : (Jvm.Cond.methodLink "ChoreAssignment" (181 : Nat) ({ cls := "java/util/ArrayList", name := "set", desc := "(ILjava/lang/Object;)Ljava/lang/Object;" } : Jvm.MethodName)) ∈ lw_all := lw_g (lw_at lw_m5 35 rfl) rfl
theorem q1054 : (Jvm.Cond.methodLink "ChoreAssignment" (185 : Nat) ({ cls := "ChoreAssignment", name := "numberOf", desc := "(I)I" } : Jvm.MethodName)) ∈ lw_all := lw_g (lw_at lw_m5 39 rfl) rfl
theorem q1055 : (Jvm.Cond.static ({ cls := "ChoreAssignment", name := "numberOf", desc := "(I)I" } : Jvm.MethodName)) ∈ lw_all := lw_g (lw_at lw_m5 40 rfl) rfl
theorem q1056 : (Jvm.Cond.code ({ cls := "ChoreAssignment", name := "numberOf", desc := "(I)I" } : Jvm.MethodName) prog_1_method_5_code (1 : Nat) (Option.some Jvm.ClassFile.FieldType.int)) ∈ lw_all := lw_g (lw_at lw_m5 41 rfl) rfl
theorem q1061 : (Jvm.Cond.instanceMethod ({ cls := "ChoreAssignment", name := "setRow", desc := "(IJ)I" } : Jvm.MethodName)) ∈ lw_all := lw_g (lw_at lw_m5 46 rfl) rfl
theorem q1062 : (Jvm.Cond.selects "ChoreAssignment" ({ cls := "ChoreAssignment", name := "setRow", desc := "(IJ)I" } : Jvm.MethodName) ({ cls := "ChoreAssignment", name := "setRow", desc := "(IJ)I" } : Jvm.MethodName)) ∈ lw_all := lw_g (lw_at lw_m5 47 rfl) rfl
theorem q1063 : (Jvm.Cond.code ({ cls := "ChoreAssignment", name := "setRow", desc := "(IJ)I" } : Jvm.MethodName) prog_1_method_18_code (12 : Nat) (Option.some Jvm.ClassFile.FieldType.int)) ∈ lw_all := lw_g (lw_at lw_m5 48 rfl) rfl
theorem q1064 : (Jvm.Cond.constantLong "ChoreAssignment" (188 : Nat) (100 : Int64)) ∈ lw_all := lw_g (lw_at lw_m5 49 rfl) rfl
theorem q1069 : (Jvm.Cond.instanceMethod ({ cls := "ChoreAssignment", name := "fill", desc := "(II)I" } : Jvm.MethodName)) ∈ lw_all := lw_g (lw_at lw_m5 54 rfl) rfl
theorem q1070 : (Jvm.Cond.selects "ChoreAssignment" ({ cls := "ChoreAssignment", name := "fill", desc := "(II)I" } : Jvm.MethodName) ({ cls := "ChoreAssignment", name := "fill", desc := "(II)I" } : Jvm.MethodName)) ∈ lw_all := lw_g (lw_at lw_m5 55 rfl) rfl
theorem q1071 : (Jvm.Cond.code ({ cls := "ChoreAssignment", name := "fill", desc := "(II)I" } : Jvm.MethodName) prog_1_method_19_code (8 : Nat) (Option.some Jvm.ClassFile.FieldType.int)) ∈ lw_all := lw_g (lw_at lw_m5 56 rfl) rfl
theorem q1072 : (Jvm.Cond.constantLong "ChoreAssignment" (196 : Nat) (9999 : Int64)) ∈ lw_all := lw_g (lw_at lw_m5 57 rfl) rfl
theorem q1077 : (Jvm.Cond.instanceMethod ({ cls := "ChoreAssignment", name := "setForbidden", desc := "(IIZ)I" } : Jvm.MethodName)) ∈ lw_all := lw_g (lw_at lw_m5 62 rfl) rfl
theorem q1078 : (Jvm.Cond.selects "ChoreAssignment" ({ cls := "ChoreAssignment", name := "setForbidden", desc := "(IIZ)I" } : Jvm.MethodName) ({ cls := "ChoreAssignment", name := "setForbidden", desc := "(IIZ)I" } : Jvm.MethodName)) ∈ lw_all := lw_g (lw_at lw_m5 63 rfl) rfl
theorem q1079 : (Jvm.Cond.code ({ cls := "ChoreAssignment", name := "setForbidden", desc := "(IIZ)I" } : Jvm.MethodName) prog_1_method_20_code (5 : Nat) (Option.some Jvm.ClassFile.FieldType.int)) ∈ lw_all := lw_g (lw_at lw_m5 64 rfl) rfl
theorem q1080 : (Jvm.Cond.methodLink "ChoreAssignment" (198 : Nat) ({ cls := "ChoreAssignment", name := "held", desc := "(II)I" } : Jvm.MethodName)) ∈ lw_all := lw_g (lw_at lw_m5 65 rfl) rfl
theorem q1081 : (Jvm.Cond.privateMethod ({ cls := "ChoreAssignment", name := "held", desc := "(II)I" } : Jvm.MethodName)) ∈ lw_tbl := lw_at lw_m5 66 rfl
theorem q1082 : (Jvm.Cond.instanceMethod ({ cls := "ChoreAssignment", name := "held", desc := "(II)I" } : Jvm.MethodName)) ∈ lw_all := lw_g (lw_at lw_m5 67 rfl) rfl
theorem q1083 : (Jvm.Cond.code ({ cls := "ChoreAssignment", name := "held", desc := "(II)I" } : Jvm.MethodName) prog_1_method_12_code (3 : Nat) (Option.some Jvm.ClassFile.FieldType.int)) ∈ lw_all := lw_g (lw_at lw_m5 68 rfl) rfl
theorem q1088 : (Jvm.Cond.instanceMethod ({ cls := "ChoreAssignment", name := "costAt", desc := "(II)I" } : Jvm.MethodName)) ∈ lw_all := lw_g (lw_at lw_m5 73 rfl) rfl
theorem q1089 : (Jvm.Cond.selects "ChoreAssignment" ({ cls := "ChoreAssignment", name := "costAt", desc := "(II)I" } : Jvm.MethodName) ({ cls := "ChoreAssignment", name := "costAt", desc := "(II)I" } : Jvm.MethodName)) ∈ lw_all := lw_g (lw_at lw_m5 74 rfl) rfl
theorem q1090 : (Jvm.Cond.code ({ cls := "ChoreAssignment", name := "costAt", desc := "(II)I" } : Jvm.MethodName) prog_1_method_21_code (3 : Nat) (Option.some Jvm.ClassFile.FieldType.int)) ∈ lw_all := lw_g (lw_at lw_m5 75 rfl) rfl
theorem q1096 : (Jvm.Cond.instanceMethod ({ cls := "ChoreAssignment", name := "addToRow", desc := "(II)I" } : Jvm.MethodName)) ∈ lw_all := lw_g (lw_at lw_m5 81 rfl) rfl
theorem q1097 : (Jvm.Cond.selects "ChoreAssignment" ({ cls := "ChoreAssignment", name := "addToRow", desc := "(II)I" } : Jvm.MethodName) ({ cls := "ChoreAssignment", name := "addToRow", desc := "(II)I" } : Jvm.MethodName)) ∈ lw_all := lw_g (lw_at lw_m5 82 rfl) rfl
theorem q1098 : (Jvm.Cond.code ({ cls := "ChoreAssignment", name := "addToRow", desc := "(II)I" } : Jvm.MethodName) prog_1_method_24_code (6 : Nat) (Option.some Jvm.ClassFile.FieldType.int)) ∈ lw_all := lw_g (lw_at lw_m5 83 rfl) rfl
theorem q1099 : (Jvm.Cond.constantLong "ChoreAssignment" (207 : Nat) (-99 : Int64)) ∈ lw_all := lw_g (lw_at lw_m5 84 rfl) rfl
theorem q1100 : (Jvm.Cond.methodLink "ChoreAssignment" (209 : Nat) ({ cls := "ChoreAssignment", name := "needState", desc := "(Z)V" } : Jvm.MethodName)) ∈ lw_all := lw_g (lw_at lw_m5 85 rfl) rfl
theorem q1101 : (Jvm.Cond.static ({ cls := "ChoreAssignment", name := "needState", desc := "(Z)V" } : Jvm.MethodName)) ∈ lw_all := lw_g (lw_at lw_m5 86 rfl) rfl
theorem q1102 : (Jvm.Cond.code ({ cls := "ChoreAssignment", name := "needState", desc := "(Z)V" } : Jvm.MethodName) prog_1_method_9_code (1 : Nat) (Option.none : Option Jvm.ClassFile.FieldType)) ∈ lw_all := lw_g (lw_at lw_m5 87 rfl) rfl
theorem q1103 : (Jvm.Cond.classLink "ChoreAssignment" (124 : Nat) "java/lang/IllegalStateException") ∈ lw_all := lw_g (lw_at lw_m5 88 rfl) rfl
theorem q1112 : (Jvm.Cond.methodLink "ChoreAssignment" (126 : Nat) ({ cls := "java/lang/IllegalStateException", name := "<init>", desc := "()V" } : Jvm.MethodName)) ∈ lw_all := lw_g (lw_at lw_m5 97 rfl) rfl
theorem q1122 : (Jvm.Cond.instanceMethod ({ cls := "ChoreAssignment", name := "addToColumn", desc := "(II)I" } : Jvm.MethodName)) ∈ lw_all := lw_g (lw_at lw_m5 107 rfl) rfl
theorem q1123 : (Jvm.Cond.selects "ChoreAssignment" ({ cls := "ChoreAssignment", name := "addToColumn", desc := "(II)I" } : Jvm.MethodName) ({ cls := "ChoreAssignment", name := "addToColumn", desc := "(II)I" } : Jvm.MethodName)) ∈ lw_all := lw_g (lw_at lw_m5 108 rfl) rfl
theorem q1124 : (Jvm.Cond.code ({ cls := "ChoreAssignment", name := "addToColumn", desc := "(II)I" } : Jvm.MethodName) prog_1_method_25_code (6 : Nat) (Option.some Jvm.ClassFile.FieldType.int)) ∈ lw_all := lw_g (lw_at lw_m5 109 rfl) rfl
theorem q1125 : (Jvm.Cond.methodLink "ChoreAssignment" (215 : Nat) ({ cls := "ChoreAssignment", name := "columnSum", desc := "(I)I" } : Jvm.MethodName)) ∈ lw_all := lw_g (lw_at lw_m5 110 rfl) rfl
theorem q1126 : (Jvm.Cond.privateMethod ({ cls := "ChoreAssignment", name := "columnSum", desc := "(I)I" } : Jvm.MethodName)) ∈ lw_tbl := lw_at lw_m5 111 rfl
theorem q1127 : (Jvm.Cond.instanceMethod ({ cls := "ChoreAssignment", name := "columnSum", desc := "(I)I" } : Jvm.MethodName)) ∈ lw_all := lw_g (lw_at lw_m5 112 rfl) rfl
theorem q1128 : (Jvm.Cond.code ({ cls := "ChoreAssignment", name := "columnSum", desc := "(I)I" } : Jvm.MethodName) prog_1_method_23_code (5 : Nat) (Option.some Jvm.ClassFile.FieldType.int)) ∈ lw_all := lw_g (lw_at lw_m5 113 rfl) rfl
theorem q1133 : (Jvm.Cond.instanceMethod ({ cls := "ChoreAssignment", name := "swapRows", desc := "(II)I" } : Jvm.MethodName)) ∈ lw_all := lw_g (lw_at lw_m5 118 rfl) rfl
theorem q1134 : (Jvm.Cond.selects "ChoreAssignment" ({ cls := "ChoreAssignment", name := "swapRows", desc := "(II)I" } : Jvm.MethodName) ({ cls := "ChoreAssignment", name := "swapRows", desc := "(II)I" } : Jvm.MethodName)) ∈ lw_all := lw_g (lw_at lw_m5 119 rfl) rfl
theorem q1135 : (Jvm.Cond.code ({ cls := "ChoreAssignment", name := "swapRows", desc := "(II)I" } : Jvm.MethodName) prog_1_method_26_code (6 : Nat) (Option.some Jvm.ClassFile.FieldType.int)) ∈ lw_all := lw_g (lw_at lw_m5 120 rfl) rfl
theorem q1136 : (Jvm.Cond.methodLink "ChoreAssignment" (218 : Nat) ({ cls := "java/lang/Math", name := "max", desc := "(II)I" } : Jvm.MethodName)) ∈ lw_all := lw_g (lw_at lw_m5 121 rfl) rfl
theorem q1137 : (Jvm.Cond.methodLink "ChoreAssignment" (221 : Nat) ({ cls := "java/util/ArrayList", name := "remove", desc := "(I)Ljava/lang/Object;" } : Jvm.MethodName)) ∈ lw_all := lw_g (lw_at lw_m5 122 rfl) rfl
theorem q1146 : (Jvm.Cond.methodLink "ChoreAssignment" (224 : Nat) ({ cls := "java/util/ArrayList", name := "add", desc := "(ILjava/lang/Object;)V" } : Jvm.MethodName)) ∈ lw_all := lw_g (lw_at lw_m5 131 rfl) rfl
theorem q1363 : (Jvm.Cond.instanceMethod ({ cls := "ChoreAssignment", name := "swapColumns", desc := "(II)I" } : Jvm.MethodName)) ∈ lw_all := lw_g (lw_at lw_m6 108 rfl) rfl
theorem q1364 : (Jvm.Cond.selects "ChoreAssignment" ({ cls := "ChoreAssignment", name := "swapColumns", desc := "(II)I" } : Jvm.MethodName) ({ cls := "ChoreAssignment", name := "swapColumns", desc := "(II)I" } : Jvm.MethodName)) ∈ lw_all := lw_g (lw_at lw_m6 109 rfl) rfl
theorem q1365 : (Jvm.Cond.code ({ cls := "ChoreAssignment", name := "swapColumns", desc := "(II)I" } : Jvm.MethodName) prog_1_method_27_code (5 : Nat) (Option.some Jvm.ClassFile.FieldType.int)) ∈ lw_all := lw_g (lw_at lw_m6 110 rfl) rfl
theorem q1370 : (Jvm.Cond.instanceMethod ({ cls := "ChoreAssignment", name := "transpose", desc := "()I" } : Jvm.MethodName)) ∈ lw_all := lw_g (lw_at lw_m6 115 rfl) rfl
theorem q1371 : (Jvm.Cond.selects "ChoreAssignment" ({ cls := "ChoreAssignment", name := "transpose", desc := "()I" } : Jvm.MethodName) ({ cls := "ChoreAssignment", name := "transpose", desc := "()I" } : Jvm.MethodName)) ∈ lw_all := lw_g (lw_at lw_m6 116 rfl) rfl
theorem q1372 : (Jvm.Cond.code ({ cls := "ChoreAssignment", name := "transpose", desc := "()I" } : Jvm.MethodName) prog_1_method_28_code (6 : Nat) (Option.some Jvm.ClassFile.FieldType.int)) ∈ lw_all := lw_g (lw_at lw_m6 117 rfl) rfl
theorem q1377 : (Jvm.Cond.instanceMethod ({ cls := "ChoreAssignment", name := "assigned", desc := "(I)I" } : Jvm.MethodName)) ∈ lw_all := lw_g (lw_at lw_m6 122 rfl) rfl
theorem q1378 : (Jvm.Cond.selects "ChoreAssignment" ({ cls := "ChoreAssignment", name := "assigned", desc := "(I)I" } : Jvm.MethodName) ({ cls := "ChoreAssignment", name := "assigned", desc := "(I)I" } : Jvm.MethodName)) ∈ lw_all := lw_g (lw_at lw_m6 123 rfl) rfl
theorem q1379 : (Jvm.Cond.code ({ cls := "ChoreAssignment", name := "assigned", desc := "(I)I" } : Jvm.MethodName) prog_1_method_50_code (2 : Nat) (Option.some Jvm.ClassFile.FieldType.int)) ∈ lw_all := lw_g (lw_at lw_m6 124 rfl) rfl
theorem q1384 : (Jvm.Cond.instanceMethod ({ cls := "ChoreAssignment", name := "rowPotential", desc := "(I)I" } : Jvm.MethodName)) ∈ lw_all := lw_g (lw_at lw_m6 129 rfl) rfl
theorem q1385 : (Jvm.Cond.selects "ChoreAssignment" ({ cls := "ChoreAssignment", name := "rowPotential", desc := "(I)I" } : Jvm.MethodName) ({ cls := "ChoreAssignment", name := "rowPotential", desc := "(I)I" } : Jvm.MethodName)) ∈ lw_all := lw_g (lw_at lw_m6 130 rfl) rfl
theorem q1386 : (Jvm.Cond.code ({ cls := "ChoreAssignment", name := "rowPotential", desc := "(I)I" } : Jvm.MethodName) prog_1_method_52_code (2 : Nat) (Option.some Jvm.ClassFile.FieldType.int)) ∈ lw_all := lw_g (lw_at lw_m6 131 rfl) rfl
theorem q1391 : (Jvm.Cond.instanceMethod ({ cls := "ChoreAssignment", name := "columnPotential", desc := "(I)I" } : Jvm.MethodName)) ∈ lw_all := lw_g (lw_at lw_m6 136 rfl) rfl
theorem q1392 : (Jvm.Cond.selects "ChoreAssignment" ({ cls := "ChoreAssignment", name := "columnPotential", desc := "(I)I" } : Jvm.MethodName) ({ cls := "ChoreAssignment", name := "columnPotential", desc := "(I)I" } : Jvm.MethodName)) ∈ lw_all := lw_g (lw_at lw_m6 137 rfl) rfl
theorem q1393 : (Jvm.Cond.code ({ cls := "ChoreAssignment", name := "columnPotential", desc := "(I)I" } : Jvm.MethodName) prog_1_method_53_code (2 : Nat) (Option.some Jvm.ClassFile.FieldType.int)) ∈ lw_all := lw_g (lw_at lw_m6 138 rfl) rfl
theorem q1398 : (Jvm.Cond.instanceMethod ({ cls := "ChoreAssignment", name := "reducedCost", desc := "(II)I" } : Jvm.MethodName)) ∈ lw_all := lw_g (lw_at lw_m6 143 rfl) rfl
theorem q1399 : (Jvm.Cond.selects "ChoreAssignment" ({ cls := "ChoreAssignment", name := "reducedCost", desc := "(II)I" } : Jvm.MethodName) ({ cls := "ChoreAssignment", name := "reducedCost", desc := "(II)I" } : Jvm.MethodName)) ∈ lw_all := lw_g (lw_at lw_m6 144 rfl) rfl
theorem q1400 : (Jvm.Cond.code ({ cls := "ChoreAssignment", name := "reducedCost", desc := "(II)I" } : Jvm.MethodName) prog_1_method_54_code (3 : Nat) (Option.some Jvm.ClassFile.FieldType.int)) ∈ lw_all := lw_g (lw_at lw_m6 145 rfl) rfl
theorem q1413 : (Jvm.Cond.instanceMethod ({ cls := "ChoreAssignment", name := "minimumIfCost", desc := "(III)I" } : Jvm.MethodName)) ∈ lw_all := lw_g (lw_at lw_m6 158 rfl) rfl
theorem q1414 : (Jvm.Cond.selects "ChoreAssignment" ({ cls := "ChoreAssignment", name := "minimumIfCost", desc := "(III)I" } : Jvm.MethodName) ({ cls := "ChoreAssignment", name := "minimumIfCost", desc := "(III)I" } : Jvm.MethodName)) ∈ lw_all := lw_g (lw_at lw_m6 159 rfl) rfl
theorem q1415 : (Jvm.Cond.code ({ cls := "ChoreAssignment", name := "minimumIfCost", desc := "(III)I" } : Jvm.MethodName) prog_1_method_57_code (4 : Nat) (Option.some Jvm.ClassFile.FieldType.int)) ∈ lw_all := lw_g (lw_at lw_m6 160 rfl) rfl
theorem q1420 : (Jvm.Cond.instanceMethod ({ cls := "ChoreAssignment", name := "fits", desc := "(I)Z" } : Jvm.MethodName)) ∈ lw_all := lw_g (lw_at lw_m6 165 rfl) rfl
theorem q1421 : (Jvm.Cond.selects "ChoreAssignment" ({ cls := "ChoreAssignment", name := "fits", desc := "(I)Z" } : Jvm.MethodName) ({ cls := "ChoreAssignment", name := "fits", desc := "(I)Z" } : Jvm.MethodName)) ∈ lw_all := lw_g (lw_at lw_m6 166 rfl) rfl
theorem q1422 : (Jvm.Cond.code ({ cls := "ChoreAssignment", name := "fits", desc := "(I)Z" } : Jvm.MethodName) prog_1_method_63_code (2 : Nat) (Option.some Jvm.ClassFile.FieldType.boolean)) ∈ lw_all := lw_g (lw_at lw_m6 167 rfl) rfl
theorem q1423 : (Jvm.Cond.constantLong "ChoreAssignment" (308 : Nat) (1000 : Int64)) ∈ lw_all := lw_g (lw_at lw_m6 168 rfl) rfl
theorem q1428 : (Jvm.Cond.instanceMethod ({ cls := "ChoreAssignment", name := "countWithin", desc := "(I)I" } : Jvm.MethodName)) ∈ lw_all := lw_g (lw_at lw_m6 173 rfl) rfl
theorem q1429 : (Jvm.Cond.selects "ChoreAssignment" ({ cls := "ChoreAssignment", name := "countWithin", desc := "(I)I" } : Jvm.MethodName) ({ cls := "ChoreAssignment", name := "countWithin", desc := "(I)I" } : Jvm.MethodName)) ∈ lw_all := lw_g (lw_at lw_m6 174 rfl) rfl
theorem q1430 : (Jvm.Cond.code ({ cls := "ChoreAssignment", name := "countWithin", desc := "(I)I" } : Jvm.MethodName) prog_1_method_65_code (2 : Nat) (Option.some Jvm.ClassFile.FieldType.int)) ∈ lw_all := lw_g (lw_at lw_m6 175 rfl) rfl
theorem q1431 : (Jvm.Cond.constantLong "ChoreAssignment" (314 : Nat) (7000 : Int64)) ∈ lw_all := lw_g (lw_at lw_m6 176 rfl) rfl
theorem q1432 : (Jvm.Cond.methodLink "ChoreAssignment" (310 : Nat) ({ cls := "ChoreAssignment", name := "countFrom", desc := "(III)I" } : Jvm.MethodName)) ∈ lw_all := lw_g (lw_at lw_m6 177 rfl) rfl
theorem q1433 : (Jvm.Cond.privateMethod ({ cls := "ChoreAssignment", name := "countFrom", desc := "(III)I" } : Jvm.MethodName)) ∈ lw_tbl := lw_at lw_m6 178 rfl
theorem q1434 : (Jvm.Cond.instanceMethod ({ cls := "ChoreAssignment", name := "countFrom", desc := "(III)I" } : Jvm.MethodName)) ∈ lw_all := lw_g (lw_at lw_m6 179 rfl) rfl
theorem q1435 : (Jvm.Cond.code ({ cls := "ChoreAssignment", name := "countFrom", desc := "(III)I" } : Jvm.MethodName) prog_1_method_64_code (6 : Nat) (Option.some Jvm.ClassFile.FieldType.int)) ∈ lw_all := lw_g (lw_at lw_m6 180 rfl) rfl
theorem q1440 : (Jvm.Cond.instanceMethod ({ cls := "ChoreAssignment", name := "sumOf", desc := "(I)I" } : Jvm.MethodName)) ∈ lw_all := lw_g (lw_at lw_m6 185 rfl) rfl
theorem q1441 : (Jvm.Cond.selects "ChoreAssignment" ({ cls := "ChoreAssignment", name := "sumOf", desc := "(I)I" } : Jvm.MethodName) ({ cls := "ChoreAssignment", name := "sumOf", desc := "(I)I" } : Jvm.MethodName)) ∈ lw_all := lw_g (lw_at lw_m6 186 rfl) rfl
theorem q1442 : (Jvm.Cond.code ({ cls := "ChoreAssignment", name := "sumOf", desc := "(I)I" } : Jvm.MethodName) prog_1_method_66_code (7 : Nat) (Option.some Jvm.ClassFile.FieldType.int)) ∈ lw_all := lw_g (lw_at lw_m6 187 rfl) rfl
theorem q1447 : (Jvm.Cond.instanceMethod ({ cls := "ChoreAssignment", name := "startEnumeration", desc := "()I" } : Jvm.MethodName)) ∈ lw_all := lw_g (lw_at lw_m6 192 rfl) rfl
theorem q1448 : (Jvm.Cond.selects "ChoreAssignment" ({ cls := "ChoreAssignment", name := "startEnumeration", desc := "()I" } : Jvm.MethodName) ({ cls := "ChoreAssignment", name := "startEnumeration", desc := "()I" } : Jvm.MethodName)) ∈ lw_all := lw_g (lw_at lw_m6 193 rfl) rfl
theorem q1449 : (Jvm.Cond.code ({ cls := "ChoreAssignment", name := "startEnumeration", desc := "()I" } : Jvm.MethodName) prog_1_method_67_code (4 : Nat) (Option.some Jvm.ClassFile.FieldType.int)) ∈ lw_all := lw_g (lw_at lw_m6 194 rfl) rfl
theorem q1450 : (Jvm.Cond.classLink "ChoreAssignment" (319 : Nat) "ChoreAssignment$Part") ∈ lw_all := lw_g (lw_at lw_m6 195 rfl) rfl
theorem q1452 : (Jvm.Cond.methodLink "ChoreAssignment" (321 : Nat) ({ cls := "ChoreAssignment$Part", name := "<init>", desc := "(IIII)V" } : Jvm.MethodName)) ∈ lw_all := lw_g (lw_at lw_m6 197 rfl) rfl
theorem q1458 : (Jvm.Cond.fieldLinkNest "ChoreAssignment" (327 : Nat) "ChoreAssignment$Part" "bound" "I" "ChoreAssignment") ∈ lw_tbl := lw_at lw_m6 203 rfl
theorem q1461 : (Jvm.Cond.fieldLinkNest "ChoreAssignment" (330 : Nat) "ChoreAssignment$Part" "rows" "I" "ChoreAssignment") ∈ lw_tbl := lw_at lw_m6 206 rfl
theorem q1464 : (Jvm.Cond.fieldLinkNest "ChoreAssignment" (333 : Nat) "ChoreAssignment$Part" "code" "I" "ChoreAssignment") ∈ lw_tbl := lw_at lw_m6 209 rfl
theorem q1466 : (Jvm.Cond.fieldLinkNest "ChoreAssignment" (324 : Nat) "ChoreAssignment$Part" "used" "I" "ChoreAssignment") ∈ lw_tbl := lw_at lw_m6 211 rfl
theorem q1481 : (Jvm.Cond.instanceMethod ({ cls := "ChoreAssignment", name := "nextSum", desc := "()I" } : Jvm.MethodName)) ∈ lw_all := lw_g (lw_at lw_m6 226 rfl) rfl
theorem q1482 : (Jvm.Cond.selects "ChoreAssignment" ({ cls := "ChoreAssignment", name := "nextSum", desc := "()I" } : Jvm.MethodName) ({ cls := "ChoreAssignment", name := "nextSum", desc := "()I" } : Jvm.MethodName)) ∈ lw_all := lw_g (lw_at lw_m6 227 rfl) rfl
theorem q1483 : (Jvm.Cond.code ({ cls := "ChoreAssignment", name := "nextSum", desc := "()I" } : Jvm.MethodName) prog_1_method_69_code (2 : Nat) (Option.some Jvm.ClassFile.FieldType.int)) ∈ lw_all := lw_g (lw_at lw_m6 228 rfl) rfl
theorem q1484 : (Jvm.Cond.methodLink "ChoreAssignment" (336 : Nat) ({ cls := "java/util/PriorityQueue", name := "size", desc := "()I" } : Jvm.MethodName)) ∈ lw_all := lw_g (lw_at lw_m6 229 rfl) rfl
theorem q1488 : (Jvm.Cond.classLink "ChoreAssignment" (338 : Nat) "java/util/NoSuchElementException") ∈ lw_all := lw_g (lw_at lw_m6 233 rfl) rfl
theorem q1489 : (Jvm.Cond.methodLink "ChoreAssignment" (340 : Nat) ({ cls := "java/util/NoSuchElementException", name := "<init>", desc := "()V" } : Jvm.MethodName)) ∈ lw_all := lw_g (lw_at lw_m6 234 rfl) rfl
theorem q1490 : (Jvm.Cond.methodLink "ChoreAssignment" (341 : Nat) ({ cls := "java/util/PriorityQueue", name := "peek", desc := "()Ljava/lang/Object;" } : Jvm.MethodName)) ∈ lw_all := lw_g (lw_at lw_m6 235 rfl) rfl
theorem q1494 : (Jvm.Cond.methodLink "ChoreAssignment" (344 : Nat) ({ cls := "ChoreAssignment", name := "goOn", desc := "(LChoreAssignment$Part;)V" } : Jvm.MethodName)) ∈ lw_all := lw_g (lw_at lw_m6 239 rfl) rfl
theorem q1495 : (Jvm.Cond.privateMethod ({ cls := "ChoreAssignment", name := "goOn", desc := "(LChoreAssignment$Part;)V" } : Jvm.MethodName)) ∈ lw_tbl := lw_at lw_m7 0 rfl
theorem q1496 : (Jvm.Cond.instanceMethod ({ cls := "ChoreAssignment", name := "goOn", desc := "(LChoreAssignment$Part;)V" } : Jvm.MethodName)) ∈ lw_all := lw_g (lw_at lw_m7 1 rfl) rfl
theorem q1497 : (Jvm.Cond.code ({ cls := "ChoreAssignment", name := "goOn", desc := "(LChoreAssignment$Part;)V" } : Jvm.MethodName) prog_1_method_68_code (3 : Nat) (Option.none : Option Jvm.ClassFile.FieldType)) ∈ lw_all := lw_g (lw_at lw_m7 2 rfl) rfl
theorem q1502 : (Jvm.Cond.instanceMethod ({ cls := "ChoreAssignment", name := "currentColumn", desc := "(I)I" } : Jvm.MethodName)) ∈ lw_all := lw_g (lw_at lw_m7 7 rfl) rfl
theorem q1503 : (Jvm.Cond.selects "ChoreAssignment" ({ cls := "ChoreAssignment", name := "currentColumn", desc := "(I)I" } : Jvm.MethodName) ({ cls := "ChoreAssignment", name := "currentColumn", desc := "(I)I" } : Jvm.MethodName)) ∈ lw_all := lw_g (lw_at lw_m7 8 rfl) rfl
theorem q1504 : (Jvm.Cond.code ({ cls := "ChoreAssignment", name := "currentColumn", desc := "(I)I" } : Jvm.MethodName) prog_1_method_70_code (4 : Nat) (Option.some Jvm.ClassFile.FieldType.int)) ∈ lw_all := lw_g (lw_at lw_m7 9 rfl) rfl
theorem q1509 : (Jvm.Cond.instanceMethod ({ cls := "ChoreAssignment", name := "shareOf", desc := "(I)F" } : Jvm.MethodName)) ∈ lw_all := lw_g (lw_at lw_m7 14 rfl) rfl
theorem q1510 : (Jvm.Cond.selects "ChoreAssignment" ({ cls := "ChoreAssignment", name := "shareOf", desc := "(I)F" } : Jvm.MethodName) ({ cls := "ChoreAssignment", name := "shareOf", desc := "(I)F" } : Jvm.MethodName)) ∈ lw_all := lw_g (lw_at lw_m7 15 rfl) rfl
theorem q1511 : (Jvm.Cond.code ({ cls := "ChoreAssignment", name := "shareOf", desc := "(I)F" } : Jvm.MethodName) prog_1_method_73_code (3 : Nat) (Option.some Jvm.ClassFile.FieldType.float)) ∈ lw_all := lw_g (lw_at lw_m7 16 rfl) rfl
theorem q1883 : (Jvm.Cond.castable "ChoreAssignment" "java/lang/Object") ∈ lw_tbl := lw_at lw_m8 148 rfl
theorem in_X1 : ∀ w ∈ wsX10, w ∈ lw_all := lw_in wsX10 [354, 356, 358, 360, 362, 364, 366, 368, 370, 372, 374, 376, 378, 380, 382, 384, 386, 388, 390, 392, 394, 396, 398, 400, 402, 404] (by decide +kernel) (by decide +kernel)

