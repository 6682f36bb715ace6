/-! java/util/AbstractCollection -/
set_option maxRecDepth 100000
def RJ0 : String := "java/util/AbstractCollection"
abbrev cJ0_init : ByteArray := prog_34_method_1_code
def yJ0_init : MethodName := ⟨RJ0, "<init>", "()V"⟩
theorem dJ0_init_0 : decode cJ0_init 0 = .ok (.aload_n 0, 1) := by decide +kernel
theorem dJ0_init_1 : decode cJ0_init 1 = .ok (.invokespecial 1, 3) := by decide +kernel
theorem dJ0_init_4 : decode cJ0_init 4 = .ok (.return_, 1) := by decide +kernel
theorem q57 : (Jvm.Cond.initialized "java/util/AbstractCollection") ∈ lw_all := lw_g (lw_at lw_m1 2 rfl) rfl
theorem q113 : (Jvm.Cond.instanceMethod ({ cls := "java/util/AbstractCollection", name := "<init>", desc := "()V" } : Jvm.MethodName)) ∈ lw_all := lw_g (lw_at lw_m1 58 rfl) rfl
theorem q114 : (Jvm.Cond.code ({ cls := "java/util/AbstractCollection", name := "<init>", desc := "()V" } : Jvm.MethodName) prog_34_method_1_code (1 : Nat) (Option.none : Option Jvm.ClassFile.FieldType)) ∈ lw_all := lw_g (lw_at lw_m1 59 rfl) rfl
theorem q115 : (Jvm.Cond.methodLink "java/util/AbstractCollection" (1 : Nat) ({ cls := "java/lang/Object", name := "<init>", desc := "()V" } : Jvm.MethodName)) ∈ lw_all := lw_g (lw_at lw_m1 60 rfl) rfl

/-! java/util/AbstractList -/
set_option maxRecDepth 100000
def RJ1 : String := "java/util/AbstractList"
abbrev cJ1_init : ByteArray := prog_35_method_1_code
def yJ1_init : MethodName := ⟨RJ1, "<init>", "()V"⟩
def dkwJ1_init_0 : List UInt8 := [42, 183, 0, 1, 42, 3, 181, 0, 7, 177]
abbrev dktJ1_init_0 : List UInt8 := dkwJ1_init_0 ++ []
theorem dksJ1_init_0 : cJ1_init.data.toList.drop 0 = dktJ1_init_0 := by decide +kernel
theorem dJ1_init_0 : decode cJ1_init 0 = .ok (.aload_n 0, 1) := dk_42 (dk_at dksJ1_init_0 0 rfl rfl)
theorem dJ1_init_1 : decode cJ1_init 1 = .ok (.invokespecial 1, 3) := dk_183 0 1 (dk_at dksJ1_init_0 1 rfl rfl)
theorem dJ1_init_4 : decode cJ1_init 4 = .ok (.aload_n 0, 1) := dk_42 (dk_at dksJ1_init_0 4 rfl rfl)
theorem dJ1_init_5 : decode cJ1_init 5 = .ok (.iconst 0, 1) := dk_3 (dk_at dksJ1_init_0 5 rfl rfl)
theorem dJ1_init_6 : decode cJ1_init 6 = .ok (.putfield 7, 3) := dk_181 0 7 (dk_at dksJ1_init_0 6 rfl rfl)
theorem dJ1_init_9 : decode cJ1_init 9 = .ok (.return_, 1) := dk_177 (dk_at dksJ1_init_0 9 rfl rfl)
theorem q58 : (Jvm.Cond.initialized "java/util/AbstractList") ∈ lw_all := lw_g (lw_at lw_m1 3 rfl) rfl
theorem q110 : (Jvm.Cond.instanceMethod ({ cls := "java/util/AbstractList", name := "<init>", desc := "()V" } : Jvm.MethodName)) ∈ lw_all := lw_g (lw_at lw_m1 55 rfl) rfl
theorem q111 : (Jvm.Cond.code ({ cls := "java/util/AbstractList", name := "<init>", desc := "()V" } : Jvm.MethodName) prog_35_method_1_code (1 : Nat) (Option.none : Option Jvm.ClassFile.FieldType)) ∈ lw_all := lw_g (lw_at lw_m1 56 rfl) rfl
theorem q112 : (Jvm.Cond.methodLink "java/util/AbstractList" (1 : Nat) ({ cls := "java/util/AbstractCollection", name := "<init>", desc := "()V" } : Jvm.MethodName)) ∈ lw_all := lw_g (lw_at lw_m1 57 rfl) rfl
theorem q122 : (Jvm.Cond.fieldLink "java/util/AbstractList" (7 : Nat) "java/util/AbstractList" "modCount" "I") ∈ lw_all := lw_g (lw_at lw_m1 67 rfl) rfl
theorem q131 : (Jvm.Cond.soleField "java/util/AbstractList" "modCount") ∈ lw_all := lw_g (lw_at lw_m1 76 rfl) rfl

/-! java/util/ArrayList -/
set_option maxRecDepth 100000
def RJ2 : String := "java/util/ArrayList"
def TJ2 : u_T := fun k => match k with
  | 0 => ("java/util/AbstractList", "modCount", "I", false)
  | 1 => ("java/util/ArrayList", "elementData", "[Ljava/lang/Object;", false)
  | _ => ("java/util/ArrayList", "size", "I", false)
def tyJ2 : Nat → FieldType := fun k => match k with
  | 0 => .int
  | 1 => .array (.object "java/lang/Object")
  | _ => .int
abbrev wsJ20 : List Cond := u_ws RJ2 TJ2 3
theorem nmJ2 : ∀ a, a < 3 → ∀ b, b < 3 → a ≠ b → (TJ2 a).2.1 ≠ (TJ2 b).2.1 := by decide +kernel
theorem tyJ2_ok : ∀ k, k < 3 → parseFieldDescriptor (TJ2 k).2.2.1 = some (tyJ2 k) := by decide +kernel
abbrev cJ2_init : ByteArray := prog_37_method_2_code
def yJ2_init : MethodName := ⟨RJ2, "<init>", "()V"⟩
def dkwJ2_init_0 : List UInt8 := [42, 183, 0, 1, 42, 178, 0, 39, 181, 0, 9, 177]
abbrev dktJ2_init_0 : List UInt8 := dkwJ2_init_0 ++ []
theorem dksJ2_init_0 : cJ2_init.data.toList.drop 0 = dktJ2_init_0 := by decide +kernel
theorem dJ2_init_0 : decode cJ2_init 0 = .ok (.aload_n 0, 1) := dk_42 (dk_at dksJ2_init_0 0 rfl rfl)
theorem dJ2_init_1 : decode cJ2_init 1 = .ok (.invokespecial 1, 3) := dk_183 0 1 (dk_at dksJ2_init_0 1 rfl rfl)
theorem dJ2_init_4 : decode cJ2_init 4 = .ok (.aload_n 0, 1) := dk_42 (dk_at dksJ2_init_0 4 rfl rfl)
theorem dJ2_init_5 : decode cJ2_init 5 = .ok (.getstatic 39, 3) := dk_178 0 39 (dk_at dksJ2_init_0 5 rfl rfl)
theorem dJ2_init_8 : decode cJ2_init 8 = .ok (.putfield 9, 3) := dk_181 0 9 (dk_at dksJ2_init_0 8 rfl rfl)
theorem dJ2_init_11 : decode cJ2_init 11 = .ok (.return_, 1) := dk_177 (dk_at dksJ2_init_0 11 rfl rfl)
abbrev cJ2_add : ByteArray := prog_37_method_25_code
def yJ2_add : MethodName := ⟨RJ2, "add", "(Ljava/lang/Object;)Z"⟩
def dkwJ2_add_1 : List UInt8 := [172]
abbrev dktJ2_add_1 : List UInt8 := dkwJ2_add_1 ++ []
def dkwJ2_add_0 : List UInt8 := [42, 89, 180, 0, 63, 4, 96, 181, 0, 63, 42, 43, 42, 180, 0, 9, 42, 180, 0, 48, 182, 0, 131, 4]
abbrev dktJ2_add_0 : List UInt8 := dkwJ2_add_0 ++ dktJ2_add_1
theorem dksJ2_add_0 : cJ2_add.data.toList.drop 0 = dktJ2_add_0 := by decide +kernel
theorem dksJ2_add_1 : cJ2_add.data.toList.drop 24 = dktJ2_add_1 := dk_seg dksJ2_add_0 24 rfl rfl
theorem dJ2_add_0 : decode cJ2_add 0 = .ok (.aload_n 0, 1) := dk_42 (dk_at dksJ2_add_0 0 rfl rfl)
theorem dJ2_add_1 : decode cJ2_add 1 = .ok (.dup, 1) := dk_89 (dk_at dksJ2_add_0 1 rfl rfl)
theorem dJ2_add_2 : decode cJ2_add 2 = .ok (.getfield 63, 3) := dk_180 0 63 (dk_at dksJ2_add_0 2 rfl rfl)
theorem dJ2_add_5 : decode cJ2_add 5 = .ok (.iconst 1, 1) := dk_4 (dk_at dksJ2_add_0 5 rfl rfl)
theorem dJ2_add_6 : decode cJ2_add 6 = .ok (.iadd, 1) := dk_96 (dk_at dksJ2_add_0 6 rfl rfl)
theorem dJ2_add_7 : decode cJ2_add 7 = .ok (.putfield 63, 3) := dk_181 0 63 (dk_at dksJ2_add_0 7 rfl rfl)
theorem dJ2_add_10 : decode cJ2_add 10 = .ok (.aload_n 0, 1) := dk_42 (dk_at dksJ2_add_0 10 rfl rfl)
theorem dJ2_add_11 : decode cJ2_add 11 = .ok (.aload_n 1, 1) := dk_43 (dk_at dksJ2_add_0 11 rfl rfl)
theorem dJ2_add_12 : decode cJ2_add 12 = .ok (.aload_n 0, 1) := dk_42 (dk_at dksJ2_add_0 12 rfl rfl)
theorem dJ2_add_13 : decode cJ2_add 13 = .ok (.getfield 9, 3) := dk_180 0 9 (dk_at dksJ2_add_0 13 rfl rfl)
theorem dJ2_add_16 : decode cJ2_add 16 = .ok (.aload_n 0, 1) := dk_42 (dk_at dksJ2_add_0 16 rfl rfl)
theorem dJ2_add_17 : decode cJ2_add 17 = .ok (.getfield 48, 3) := dk_180 0 48 (dk_at dksJ2_add_0 17 rfl rfl)
theorem dJ2_add_20 : decode cJ2_add 20 = .ok (.invokevirtual 131, 3) := dk_182 0 131 (dk_at dksJ2_add_0 20 rfl rfl)
theorem dJ2_add_23 : decode cJ2_add 23 = .ok (.iconst 1, 1) := dk_4 (dk_at dksJ2_add_0 23 rfl rfl)
theorem dJ2_add_24 : decode cJ2_add 24 = .ok (.ireturn, 1) := dk_172 (dk_at dksJ2_add_1 0 rfl rfl)
abbrev cJ2_add_2 : ByteArray := prog_37_method_24_code
def yJ2_add_2 : MethodName := ⟨RJ2, "add", "(Ljava/lang/Object;[Ljava/lang/Object;I)V"⟩
def dkwJ2_add_2_0 : List UInt8 := [29, 44, 190, 160, 0, 8, 42, 182, 0, 129, 77, 44, 29, 43, 83, 42, 29, 4, 96, 181, 0, 48, 177]
abbrev dktJ2_add_2_0 : List UInt8 := dkwJ2_add_2_0 ++ []
theorem dksJ2_add_2_0 : cJ2_add_2.data.toList.drop 0 = dktJ2_add_2_0 := by decide +kernel
theorem dJ2_add_2_0 : decode cJ2_add_2 0 = .ok (.iload_n 3, 1) := dk_29 (dk_at dksJ2_add_2_0 0 rfl rfl)
theorem dJ2_add_2_1 : decode cJ2_add_2 1 = .ok (.aload_n 2, 1) := dk_44 (dk_at dksJ2_add_2_0 1 rfl rfl)
theorem dJ2_add_2_2 : decode cJ2_add_2 2 = .ok (.arraylength, 1) := dk_190 (dk_at dksJ2_add_2_0 2 rfl rfl)
theorem dJ2_add_2_3 : decode cJ2_add_2 3 = .ok (.if_icmp .ne 8, 3) := dk_160 0 8 (dk_at dksJ2_add_2_0 3 rfl rfl)
theorem dJ2_add_2_6 : decode cJ2_add_2 6 = .ok (.aload_n 0, 1) := dk_42 (dk_at dksJ2_add_2_0 6 rfl rfl)
theorem dJ2_add_2_7 : decode cJ2_add_2 7 = .ok (.invokevirtual 129, 3) := dk_182 0 129 (dk_at dksJ2_add_2_0 7 rfl rfl)
theorem dJ2_add_2_10 : decode cJ2_add_2 10 = .ok (.astore_n 2, 1) := dk_77 (dk_at dksJ2_add_2_0 10 rfl rfl)
theorem dJ2_add_2_11 : decode cJ2_add_2 11 = .ok (.aload_n 2, 1) := dk_44 (dk_at dksJ2_add_2_0 11 rfl rfl)
theorem dJ2_add_2_12 : decode cJ2_add_2 12 = .ok (.iload_n 3, 1) := dk_29 (dk_at dksJ2_add_2_0 12 rfl rfl)
theorem dJ2_add_2_13 : decode cJ2_add_2 13 = .ok (.aload_n 1, 1) := dk_43 (dk_at dksJ2_add_2_0 13 rfl rfl)
theorem dJ2_add_2_14 : decode cJ2_add_2 14 = .ok (.aastore, 1) := dk_83 (dk_at dksJ2_add_2_0 14 rfl rfl)
theorem dJ2_add_2_15 : decode cJ2_add_2 15 = .ok (.aload_n 0, 1) := dk_42 (dk_at dksJ2_add_2_0 15 rfl rfl)
theorem dJ2_add_2_16 : decode cJ2_add_2 16 = .ok (.iload_n 3, 1) := dk_29 (dk_at dksJ2_add_2_0 16 rfl rfl)
theorem dJ2_add_2_17 : decode cJ2_add_2 17 = .ok (.iconst 1, 1) := dk_4 (dk_at dksJ2_add_2_0 17 rfl rfl)
theorem dJ2_add_2_18 : decode cJ2_add_2 18 = .ok (.iadd, 1) := dk_96 (dk_at dksJ2_add_2_0 18 rfl rfl)
theorem dJ2_add_2_19 : decode cJ2_add_2 19 = .ok (.putfield 48, 3) := dk_181 0 48 (dk_at dksJ2_add_2_0 19 rfl rfl)
theorem dJ2_add_2_22 : decode cJ2_add_2 22 = .ok (.return_, 1) := dk_177 (dk_at dksJ2_add_2_0 22 rfl rfl)
abbrev cJ2_grow : ByteArray := prog_37_method_7_code
def yJ2_grow : MethodName := ⟨RJ2, "grow", "()[Ljava/lang/Object;"⟩
def dkwJ2_grow_0 : List UInt8 := [42, 42, 180, 0, 48, 4, 96, 182, 0, 69, 176]
abbrev dktJ2_grow_0 : List UInt8 := dkwJ2_grow_0 ++ []
theorem dksJ2_grow_0 : cJ2_grow.data.toList.drop 0 = dktJ2_grow_0 := by decide +kernel
theorem dJ2_grow_0 : decode cJ2_grow 0 = .ok (.aload_n 0, 1) := dk_42 (dk_at dksJ2_grow_0 0 rfl rfl)
theorem dJ2_grow_1 : decode cJ2_grow 1 = .ok (.aload_n 0, 1) := dk_42 (dk_at dksJ2_grow_0 1 rfl rfl)
theorem dJ2_grow_2 : decode cJ2_grow 2 = .ok (.getfield 48, 3) := dk_180 0 48 (dk_at dksJ2_grow_0 2 rfl rfl)
theorem dJ2_grow_5 : decode cJ2_grow 5 = .ok (.iconst 1, 1) := dk_4 (dk_at dksJ2_grow_0 5 rfl rfl)
theorem dJ2_grow_6 : decode cJ2_grow 6 = .ok (.iadd, 1) := dk_96 (dk_at dksJ2_grow_0 6 rfl rfl)
theorem dJ2_grow_7 : decode cJ2_grow 7 = .ok (.invokevirtual 69, 3) := dk_182 0 69 (dk_at dksJ2_grow_0 7 rfl rfl)
theorem dJ2_grow_10 : decode cJ2_grow 10 = .ok (.areturn, 1) := dk_176 (dk_at dksJ2_grow_0 10 rfl rfl)
abbrev cJ2_grow_2 : ByteArray := prog_37_method_6_code
def yJ2_grow_2 : MethodName := ⟨RJ2, "grow", "(I)[Ljava/lang/Object;"⟩
def dkwJ2_grow_2_2 : List UInt8 := [27, 184, 0, 79, 189, 0, 7, 90, 181, 0, 9, 176]
abbrev dktJ2_grow_2_2 : List UInt8 := dkwJ2_grow_2_2 ++ []
def dkwJ2_grow_2_1 : List UInt8 := [28, 4, 122, 184, 0, 73, 62, 42, 42, 180, 0, 9, 29, 184, 0, 66, 90, 181, 0, 9, 176, 42, 16, 10]
abbrev dktJ2_grow_2_1 : List UInt8 := dkwJ2_grow_2_1 ++ dktJ2_grow_2_2
def dkwJ2_grow_2_0 : List UInt8 := [42, 180, 0, 9, 190, 61, 28, 157, 0, 13, 42, 180, 0, 9, 178, 0, 39, 165, 0, 28, 28, 27, 28, 100]
abbrev dktJ2_grow_2_0 : List UInt8 := dkwJ2_grow_2_0 ++ dktJ2_grow_2_1
theorem dksJ2_grow_2_0 : cJ2_grow_2.data.toList.drop 0 = dktJ2_grow_2_0 := by decide +kernel
theorem dksJ2_grow_2_1 : cJ2_grow_2.data.toList.drop 24 = dktJ2_grow_2_1 := dk_seg dksJ2_grow_2_0 24 rfl rfl
theorem dksJ2_grow_2_2 : cJ2_grow_2.data.toList.drop 48 = dktJ2_grow_2_2 := dk_seg dksJ2_grow_2_1 24 rfl rfl
theorem dJ2_grow_2_0 : decode cJ2_grow_2 0 = .ok (.aload_n 0, 1) := dk_42 (dk_at dksJ2_grow_2_0 0 rfl rfl)
theorem dJ2_grow_2_1 : decode cJ2_grow_2 1 = .ok (.getfield 9, 3) := dk_180 0 9 (dk_at dksJ2_grow_2_0 1 rfl rfl)
theorem dJ2_grow_2_4 : decode cJ2_grow_2 4 = .ok (.arraylength, 1) := dk_190 (dk_at dksJ2_grow_2_0 4 rfl rfl)
theorem dJ2_grow_2_5 : decode cJ2_grow_2 5 = .ok (.istore_n 2, 1) := dk_61 (dk_at dksJ2_grow_2_0 5 rfl rfl)
theorem dJ2_grow_2_6 : decode cJ2_grow_2 6 = .ok (.iload_n 2, 1) := dk_28 (dk_at dksJ2_grow_2_0 6 rfl rfl)
theorem dJ2_grow_2_7 : decode cJ2_grow_2 7 = .ok (.ifCond .gt 13, 3) := dk_157 0 13 (dk_at dksJ2_grow_2_0 7 rfl rfl)
theorem dJ2_grow_2_10 : decode cJ2_grow_2 10 = .ok (.aload_n 0, 1) := dk_42 (dk_at dksJ2_grow_2_0 10 rfl rfl)
theorem dJ2_grow_2_11 : decode cJ2_grow_2 11 = .ok (.getfield 9, 3) := dk_180 0 9 (dk_at dksJ2_grow_2_0 11 rfl rfl)
theorem dJ2_grow_2_14 : decode cJ2_grow_2 14 = .ok (.getstatic 39, 3) := dk_178 0 39 (dk_at dksJ2_grow_2_0 14 rfl rfl)
theorem dJ2_grow_2_17 : decode cJ2_grow_2 17 = .ok (.if_acmp .eq 28, 3) := dk_165 0 28 (dk_at dksJ2_grow_2_0 17 rfl rfl)
theorem dJ2_grow_2_20 : decode cJ2_grow_2 20 = .ok (.iload_n 2, 1) := dk_28 (dk_at dksJ2_grow_2_0 20 rfl rfl)
theorem dJ2_grow_2_21 : decode cJ2_grow_2 21 = .ok (.iload_n 1, 1) := dk_27 (dk_at dksJ2_grow_2_0 21 rfl rfl)
theorem dJ2_grow_2_22 : decode cJ2_grow_2 22 = .ok (.iload_n 2, 1) := dk_28 (dk_at dksJ2_grow_2_0 22 rfl rfl)
theorem dJ2_grow_2_23 : decode cJ2_grow_2 23 = .ok (.isub, 1) := dk_100 (dk_at dksJ2_grow_2_0 23 rfl rfl)
theorem dJ2_grow_2_24 : decode cJ2_grow_2 24 = .ok (.iload_n 2, 1) := dk_28 (dk_at dksJ2_grow_2_1 0 rfl rfl)
theorem dJ2_grow_2_25 : decode cJ2_grow_2 25 = .ok (.iconst 1, 1) := dk_4 (dk_at dksJ2_grow_2_1 1 rfl rfl)
theorem dJ2_grow_2_26 : decode cJ2_grow_2 26 = .ok (.ishr, 1) := dk_122 (dk_at dksJ2_grow_2_1 2 rfl rfl)
theorem dJ2_grow_2_27 : decode cJ2_grow_2 27 = .ok (.invokestatic 73, 3) := dk_184 0 73 (dk_at dksJ2_grow_2_1 3 rfl rfl)
theorem dJ2_grow_2_30 : decode cJ2_grow_2 30 = .ok (.istore_n 3, 1) := dk_62 (dk_at dksJ2_grow_2_1 6 rfl rfl)
theorem dJ2_grow_2_31 : decode cJ2_grow_2 31 = .ok (.aload_n 0, 1) := dk_42 (dk_at dksJ2_grow_2_1 7 rfl rfl)
theorem dJ2_grow_2_32 : decode cJ2_grow_2 32 = .ok (.aload_n 0, 1) := dk_42 (dk_at dksJ2_grow_2_1 8 rfl rfl)
theorem dJ2_grow_2_33 : decode cJ2_grow_2 33 = .ok (.getfield 9, 3) := dk_180 0 9 (dk_at dksJ2_grow_2_1 9 rfl rfl)
theorem dJ2_grow_2_36 : decode cJ2_grow_2 36 = .ok (.iload_n 3, 1) := dk_29 (dk_at dksJ2_grow_2_1 12 rfl rfl)
theorem dJ2_grow_2_37 : decode cJ2_grow_2 37 = .ok (.invokestatic 66, 3) := dk_184 0 66 (dk_at dksJ2_grow_2_1 13 rfl rfl)
theorem dJ2_grow_2_40 : decode cJ2_grow_2 40 = .ok (.dup_x1, 1) := dk_90 (dk_at dksJ2_grow_2_1 16 rfl rfl)
theorem dJ2_grow_2_41 : decode cJ2_grow_2 41 = .ok (.putfield 9, 3) := dk_181 0 9 (dk_at dksJ2_grow_2_1 17 rfl rfl)
theorem dJ2_grow_2_44 : decode cJ2_grow_2 44 = .ok (.areturn, 1) := dk_176 (dk_at dksJ2_grow_2_1 20 rfl rfl)
theorem dJ2_grow_2_45 : decode cJ2_grow_2 45 = .ok (.aload_n 0, 1) := dk_42 (dk_at dksJ2_grow_2_1 21 rfl rfl)
theorem dJ2_grow_2_46 : decode cJ2_grow_2 46 = .ok (.bipush 10, 2) := dk_16 10 (dk_at dksJ2_grow_2_1 22 rfl rfl)
theorem dJ2_grow_2_48 : decode cJ2_grow_2 48 = .ok (.iload_n 1, 1) := dk_27 (dk_at dksJ2_grow_2_2 0 rfl rfl)
theorem dJ2_grow_2_49 : decode cJ2_grow_2 49 = .ok (.invokestatic 79, 3) := dk_184 0 79 (dk_at dksJ2_grow_2_2 1 rfl rfl)
theorem dJ2_grow_2_52 : decode cJ2_grow_2 52 = .ok (.anewarray 7, 3) := dk_189 0 7 (dk_at dksJ2_grow_2_2 4 rfl rfl)
theorem dJ2_grow_2_55 : decode cJ2_grow_2 55 = .ok (.dup_x1, 1) := dk_90 (dk_at dksJ2_grow_2_2 7 rfl rfl)
theorem dJ2_grow_2_56 : decode cJ2_grow_2 56 = .ok (.putfield 9, 3) := dk_181 0 9 (dk_at dksJ2_grow_2_2 8 rfl rfl)
theorem dJ2_grow_2_59 : decode cJ2_grow_2 59 = .ok (.areturn, 1) := dk_176 (dk_at dksJ2_grow_2_2 11 rfl rfl)
abbrev cJ2_iterator : ByteArray := prog_37_method_55_code
def yJ2_iterator : MethodName := ⟨RJ2, "iterator", "()Ljava/util/Iterator;"⟩
def dkwJ2_iterator_0 : List UInt8 := [187, 1, 11, 89, 42, 183, 1, 13, 176]
abbrev dktJ2_iterator_0 : List UInt8 := dkwJ2_iterator_0 ++ []
theorem dksJ2_iterator_0 : cJ2_iterator.data.toList.drop 0 = dktJ2_iterator_0 := by decide +kernel
theorem dJ2_iterator_0 : decode cJ2_iterator 0 = .ok (.new 267, 3) := dk_187 1 11 (dk_at dksJ2_iterator_0 0 rfl rfl)
theorem dJ2_iterator_3 : decode cJ2_iterator 3 = .ok (.dup, 1) := dk_89 (dk_at dksJ2_iterator_0 3 rfl rfl)
theorem dJ2_iterator_4 : decode cJ2_iterator 4 = .ok (.aload_n 0, 1) := dk_42 (dk_at dksJ2_iterator_0 4 rfl rfl)
theorem dJ2_iterator_5 : decode cJ2_iterator 5 = .ok (.invokespecial 269, 3) := dk_183 1 13 (dk_at dksJ2_iterator_0 5 rfl rfl)
theorem dJ2_iterator_8 : decode cJ2_iterator 8 = .ok (.areturn, 1) := dk_176 (dk_at dksJ2_iterator_0 8 rfl rfl)
abbrev cJ2_get : ByteArray := prog_37_method_20_code
def yJ2_get : MethodName := ⟨RJ2, "get", "(I)Ljava/lang/Object;"⟩
def dkwJ2_get_0 : List UInt8 := [27, 42, 180, 0, 48, 184, 0, 118, 87, 42, 27, 182, 0, 123, 176]
abbrev dktJ2_get_0 : List UInt8 := dkwJ2_get_0 ++ []
theorem dksJ2_get_0 : cJ2_get.data.toList.drop 0 = dktJ2_get_0 := by decide +kernel
theorem dJ2_get_0 : decode cJ2_get 0 = .ok (.iload_n 1, 1) := dk_27 (dk_at dksJ2_get_0 0 rfl rfl)
theorem dJ2_get_1 : decode cJ2_get 1 = .ok (.aload_n 0, 1) := dk_42 (dk_at dksJ2_get_0 1 rfl rfl)
theorem dJ2_get_2 : decode cJ2_get 2 = .ok (.getfield 48, 3) := dk_180 0 48 (dk_at dksJ2_get_0 2 rfl rfl)
theorem dJ2_get_5 : decode cJ2_get 5 = .ok (.invokestatic 118, 3) := dk_184 0 118 (dk_at dksJ2_get_0 5 rfl rfl)
theorem dJ2_get_8 : decode cJ2_get 8 = .ok (.pop, 1) := dk_87 (dk_at dksJ2_get_0 8 rfl rfl)
theorem dJ2_get_9 : decode cJ2_get 9 = .ok (.aload_n 0, 1) := dk_42 (dk_at dksJ2_get_0 9 rfl rfl)
theorem dJ2_get_10 : decode cJ2_get 10 = .ok (.iload_n 1, 1) := dk_27 (dk_at dksJ2_get_0 10 rfl rfl)
theorem dJ2_get_11 : decode cJ2_get 11 = .ok (.invokevirtual 123, 3) := dk_182 0 123 (dk_at dksJ2_get_0 11 rfl rfl)
theorem dJ2_get_14 : decode cJ2_get 14 = .ok (.areturn, 1) := dk_176 (dk_at dksJ2_get_0 14 rfl rfl)
abbrev cJ2_elementData : ByteArray := prog_37_method_18_code
def yJ2_elementData : MethodName := ⟨RJ2, "elementData", "(I)Ljava/lang/Object;"⟩
def dkwJ2_elementData_0 : List UInt8 := [42, 180, 0, 9, 27, 50, 176]
abbrev dktJ2_elementData_0 : List UInt8 := dkwJ2_elementData_0 ++ []
theorem dksJ2_elementData_0 : cJ2_elementData.data.toList.drop 0 = dktJ2_elementData_0 := by decide +kernel
theorem dJ2_elementData_0 : decode cJ2_elementData 0 = .ok (.aload_n 0, 1) := dk_42 (dk_at dksJ2_elementData_0 0 rfl rfl)
theorem dJ2_elementData_1 : decode cJ2_elementData 1 = .ok (.getfield 9, 3) := dk_180 0 9 (dk_at dksJ2_elementData_0 1 rfl rfl)
theorem dJ2_elementData_4 : decode cJ2_elementData 4 = .ok (.iload_n 1, 1) := dk_27 (dk_at dksJ2_elementData_0 4 rfl rfl)
theorem dJ2_elementData_5 : decode cJ2_elementData 5 = .ok (.aaload, 1) := dk_50 (dk_at dksJ2_elementData_0 5 rfl rfl)
theorem dJ2_elementData_6 : decode cJ2_elementData 6 = .ok (.areturn, 1) := dk_176 (dk_at dksJ2_elementData_0 6 rfl rfl)
abbrev cJ2_set : ByteArray := prog_37_method_23_code
def yJ2_set : MethodName := ⟨RJ2, "set", "(ILjava/lang/Object;)Ljava/lang/Object;"⟩
def dkwJ2_set_0 : List UInt8 := [27, 42, 180, 0, 48, 184, 0, 118, 87, 42, 27, 182, 0, 123, 78, 42, 180, 0, 9, 27, 44, 83, 45, 176]
abbrev dktJ2_set_0 : List UInt8 := dkwJ2_set_0 ++ []
theorem dksJ2_set_0 : cJ2_set.data.toList.drop 0 = dktJ2_set_0 := by decide +kernel
theorem dJ2_set_0 : decode cJ2_set 0 = .ok (.iload_n 1, 1) := dk_27 (dk_at dksJ2_set_0 0 rfl rfl)
theorem dJ2_set_1 : decode cJ2_set 1 = .ok (.aload_n 0, 1) := dk_42 (dk_at dksJ2_set_0 1 rfl rfl)
theorem dJ2_set_2 : decode cJ2_set 2 = .ok (.getfield 48, 3) := dk_180 0 48 (dk_at dksJ2_set_0 2 rfl rfl)
theorem dJ2_set_5 : decode cJ2_set 5 = .ok (.invokestatic 118, 3) := dk_184 0 118 (dk_at dksJ2_set_0 5 rfl rfl)
theorem dJ2_set_8 : decode cJ2_set 8 = .ok (.pop, 1) := dk_87 (dk_at dksJ2_set_0 8 rfl rfl)
theorem dJ2_set_9 : decode cJ2_set 9 = .ok (.aload_n 0, 1) := dk_42 (dk_at dksJ2_set_0 9 rfl rfl)
theorem dJ2_set_10 : decode cJ2_set 10 = .ok (.iload_n 1, 1) := dk_27 (dk_at dksJ2_set_0 10 rfl rfl)
theorem dJ2_set_11 : decode cJ2_set 11 = .ok (.invokevirtual 123, 3) := dk_182 0 123 (dk_at dksJ2_set_0 11 rfl rfl)
theorem dJ2_set_14 : decode cJ2_set 14 = .ok (.astore_n 3, 1) := dk_78 (dk_at dksJ2_set_0 14 rfl rfl)
theorem dJ2_set_15 : decode cJ2_set 15 = .ok (.aload_n 0, 1) := dk_42 (dk_at dksJ2_set_0 15 rfl rfl)
theorem dJ2_set_16 : decode cJ2_set 16 = .ok (.getfield 9, 3) := dk_180 0 9 (dk_at dksJ2_set_0 16 rfl rfl)
theorem dJ2_set_19 : decode cJ2_set 19 = .ok (.iload_n 1, 1) := dk_27 (dk_at dksJ2_set_0 19 rfl rfl)
theorem dJ2_set_20 : decode cJ2_set 20 = .ok (.aload_n 2, 1) := dk_44 (dk_at dksJ2_set_0 20 rfl rfl)
theorem dJ2_set_21 : decode cJ2_set 21 = .ok (.aastore, 1) := dk_83 (dk_at dksJ2_set_0 21 rfl rfl)
theorem dJ2_set_22 : decode cJ2_set 22 = .ok (.aload_n 3, 1) := dk_45 (dk_at dksJ2_set_0 22 rfl rfl)
theorem dJ2_set_23 : decode cJ2_set 23 = .ok (.areturn, 1) := dk_176 (dk_at dksJ2_set_0 23 rfl rfl)
abbrev cJ2_remove : ByteArray := prog_37_method_29_code
def yJ2_remove : MethodName := ⟨RJ2, "remove", "(I)Ljava/lang/Object;"⟩
def dkwJ2_remove_1 : List UInt8 := [45, 176]
abbrev dktJ2_remove_1 : List UInt8 := dkwJ2_remove_1 ++ []
def dkwJ2_remove_0 : List UInt8 := [27, 42, 180, 0, 48, 184, 0, 118, 87, 42, 180, 0, 9, 77, 44, 27, 50, 78, 42, 44, 27, 182, 0, 144]
abbrev dktJ2_remove_0 : List UInt8 := dkwJ2_remove_0 ++ dktJ2_remove_1
theorem dksJ2_remove_0 : cJ2_remove.data.toList.drop 0 = dktJ2_remove_0 := by decide +kernel
theorem dksJ2_remove_1 : cJ2_remove.data.toList.drop 24 = dktJ2_remove_1 := dk_seg dksJ2_remove_0 24 rfl rfl
theorem dJ2_remove_0 : decode cJ2_remove 0 = .ok (.iload_n 1, 1) := dk_27 (dk_at dksJ2_remove_0 0 rfl rfl)
theorem dJ2_remove_1 : decode cJ2_remove 1 = .ok (.aload_n 0, 1) := dk_42 (dk_at dksJ2_remove_0 1 rfl rfl)
theorem dJ2_remove_2 : decode cJ2_remove 2 = .ok (.getfield 48, 3) := dk_180 0 48 (dk_at dksJ2_remove_0 2 rfl rfl)
theorem dJ2_remove_5 : decode cJ2_remove 5 = .ok (.invokestatic 118, 3) := dk_184 0 118 (dk_at dksJ2_remove_0 5 rfl rfl)
theorem dJ2_remove_8 : decode cJ2_remove 8 = .ok (.pop, 1) := dk_87 (dk_at dksJ2_remove_0 8 rfl rfl)
theorem dJ2_remove_9 : decode cJ2_remove 9 = .ok (.aload_n 0, 1) := dk_42 (dk_at dksJ2_remove_0 9 rfl rfl)
theorem dJ2_remove_10 : decode cJ2_remove 10 = .ok (.getfield 9, 3) := dk_180 0 9 (dk_at dksJ2_remove_0 10 rfl rfl)
theorem dJ2_remove_13 : decode cJ2_remove 13 = .ok (.astore_n 2, 1) := dk_77 (dk_at dksJ2_remove_0 13 rfl rfl)
theorem dJ2_remove_14 : decode cJ2_remove 14 = .ok (.aload_n 2, 1) := dk_44 (dk_at dksJ2_remove_0 14 rfl rfl)
theorem dJ2_remove_15 : decode cJ2_remove 15 = .ok (.iload_n 1, 1) := dk_27 (dk_at dksJ2_remove_0 15 rfl rfl)
theorem dJ2_remove_16 : decode cJ2_remove 16 = .ok (.aaload, 1) := dk_50 (dk_at dksJ2_remove_0 16 rfl rfl)
theorem dJ2_remove_17 : decode cJ2_remove 17 = .ok (.astore_n 3, 1) := dk_78 (dk_at dksJ2_remove_0 17 rfl rfl)
theorem dJ2_remove_18 : decode cJ2_remove 18 = .ok (.aload_n 0, 1) := dk_42 (dk_at dksJ2_remove_0 18 rfl rfl)
theorem dJ2_remove_19 : decode cJ2_remove 19 = .ok (.aload_n 2, 1) := dk_44 (dk_at dksJ2_remove_0 19 rfl rfl)
theorem dJ2_remove_20 : decode cJ2_remove 20 = .ok (.iload_n 1, 1) := dk_27 (dk_at dksJ2_remove_0 20 rfl rfl)
theorem dJ2_remove_21 : decode cJ2_remove 21 = .ok (.invokevirtual 144, 3) := dk_182 0 144 (dk_at dksJ2_remove_0 21 rfl rfl)
theorem dJ2_remove_24 : decode cJ2_remove 24 = .ok (.aload_n 3, 1) := dk_45 (dk_at dksJ2_remove_1 0 rfl rfl)
theorem dJ2_remove_25 : decode cJ2_remove 25 = .ok (.areturn, 1) := dk_176 (dk_at dksJ2_remove_1 1 rfl rfl)
abbrev cJ2_fastRemove : ByteArray := prog_37_method_39_code
def yJ2_fastRemove : MethodName := ⟨RJ2, "fastRemove", "([Ljava/lang/Object;I)V"⟩
def dkwJ2_fastRemove_1 : List UInt8 := [4, 96, 43, 28, 29, 28, 100, 184, 0, 112, 43, 42, 29, 90, 181, 0, 48, 1, 83, 177]
abbrev dktJ2_fastRemove_1 : List UInt8 := dkwJ2_fastRemove_1 ++ []
def dkwJ2_fastRemove_0 : List UInt8 := [42, 89, 180, 0, 63, 4, 96, 181, 0, 63, 42, 180, 0, 48, 4, 100, 89, 62, 28, 164, 0, 15, 43, 28]
abbrev dktJ2_fastRemove_0 : List UInt8 := dkwJ2_fastRemove_0 ++ dktJ2_fastRemove_1
theorem dksJ2_fastRemove_0 : cJ2_fastRemove.data.toList.drop 0 = dktJ2_fastRemove_0 := by decide +kernel
theorem dksJ2_fastRemove_1 : cJ2_fastRemove.data.toList.drop 24 = dktJ2_fastRemove_1 := dk_seg dksJ2_fastRemove_0 24 rfl rfl
theorem dJ2_fastRemove_0 : decode cJ2_fastRemove 0 = .ok (.aload_n 0, 1) := dk_42 (dk_at dksJ2_fastRemove_0 0 rfl rfl)
theorem dJ2_fastRemove_1 : decode cJ2_fastRemove 1 = .ok (.dup, 1) := dk_89 (dk_at dksJ2_fastRemove_0 1 rfl rfl)
theorem dJ2_fastRemove_2 : decode cJ2_fastRemove 2 = .ok (.getfield 63, 3) := dk_180 0 63 (dk_at dksJ2_fastRemove_0 2 rfl rfl)
theorem dJ2_fastRemove_5 : decode cJ2_fastRemove 5 = .ok (.iconst 1, 1) := dk_4 (dk_at dksJ2_fastRemove_0 5 rfl rfl)
theorem dJ2_fastRemove_6 : decode cJ2_fastRemove 6 = .ok (.iadd, 1) := dk_96 (dk_at dksJ2_fastRemove_0 6 rfl rfl)
theorem dJ2_fastRemove_7 : decode cJ2_fastRemove 7 = .ok (.putfield 63, 3) := dk_181 0 63 (dk_at dksJ2_fastRemove_0 7 rfl rfl)
theorem dJ2_fastRemove_10 : decode cJ2_fastRemove 10 = .ok (.aload_n 0, 1) := dk_42 (dk_at dksJ2_fastRemove_0 10 rfl rfl)
theorem dJ2_fastRemove_11 : decode cJ2_fastRemove 11 = .ok (.getfield 48, 3) := dk_180 0 48 (dk_at dksJ2_fastRemove_0 11 rfl rfl)
theorem dJ2_fastRemove_14 : decode cJ2_fastRemove 14 = .ok (.iconst 1, 1) := dk_4 (dk_at dksJ2_fastRemove_0 14 rfl rfl)
theorem dJ2_fastRemove_15 : decode cJ2_fastRemove 15 = .ok (.isub, 1) := dk_100 (dk_at dksJ2_fastRemove_0 15 rfl rfl)
theorem dJ2_fastRemove_16 : decode cJ2_fastRemove 16 = .ok (.dup, 1) := dk_89 (dk_at dksJ2_fastRemove_0 16 rfl rfl)
theorem dJ2_fastRemove_17 : decode cJ2_fastRemove 17 = .ok (.istore_n 3, 1) := dk_62 (dk_at dksJ2_fastRemove_0 17 rfl rfl)
theorem dJ2_fastRemove_18 : decode cJ2_fastRemove 18 = .ok (.iload_n 2, 1) := dk_28 (dk_at dksJ2_fastRemove_0 18 rfl rfl)
theorem dJ2_fastRemove_19 : decode cJ2_fastRemove 19 = .ok (.if_icmp .le 15, 3) := dk_164 0 15 (dk_at dksJ2_fastRemove_0 19 rfl rfl)
theorem dJ2_fastRemove_22 : decode cJ2_fastRemove 22 = .ok (.aload_n 1, 1) := dk_43 (dk_at dksJ2_fastRemove_0 22 rfl rfl)
theorem dJ2_fastRemove_23 : decode cJ2_fastRemove 23 = .ok (.iload_n 2, 1) := dk_28 (dk_at dksJ2_fastRemove_0 23 rfl rfl)
theorem dJ2_fastRemove_24 : decode cJ2_fastRemove 24 = .ok (.iconst 1, 1) := dk_4 (dk_at dksJ2_fastRemove_1 0 rfl rfl)
theorem dJ2_fastRemove_25 : decode cJ2_fastRemove 25 = .ok (.iadd, 1) := dk_96 (dk_at dksJ2_fastRemove_1 1 rfl rfl)
theorem dJ2_fastRemove_26 : decode cJ2_fastRemove 26 = .ok (.aload_n 1, 1) := dk_43 (dk_at dksJ2_fastRemove_1 2 rfl rfl)
theorem dJ2_fastRemove_27 : decode cJ2_fastRemove 27 = .ok (.iload_n 2, 1) := dk_28 (dk_at dksJ2_fastRemove_1 3 rfl rfl)
theorem dJ2_fastRemove_28 : decode cJ2_fastRemove 28 = .ok (.iload_n 3, 1) := dk_29 (dk_at dksJ2_fastRemove_1 4 rfl rfl)
theorem dJ2_fastRemove_29 : decode cJ2_fastRemove 29 = .ok (.iload_n 2, 1) := dk_28 (dk_at dksJ2_fastRemove_1 5 rfl rfl)
theorem dJ2_fastRemove_30 : decode cJ2_fastRemove 30 = .ok (.isub, 1) := dk_100 (dk_at dksJ2_fastRemove_1 6 rfl rfl)
theorem dJ2_fastRemove_31 : decode cJ2_fastRemove 31 = .ok (.invokestatic 112, 3) := dk_184 0 112 (dk_at dksJ2_fastRemove_1 7 rfl rfl)
theorem dJ2_fastRemove_34 : decode cJ2_fastRemove 34 = .ok (.aload_n 1, 1) := dk_43 (dk_at dksJ2_fastRemove_1 10 rfl rfl)
theorem dJ2_fastRemove_35 : decode cJ2_fastRemove 35 = .ok (.aload_n 0, 1) := dk_42 (dk_at dksJ2_fastRemove_1 11 rfl rfl)
theorem dJ2_fastRemove_36 : decode cJ2_fastRemove 36 = .ok (.iload_n 3, 1) := dk_29 (dk_at dksJ2_fastRemove_1 12 rfl rfl)
theorem dJ2_fastRemove_37 : decode cJ2_fastRemove 37 = .ok (.dup_x1, 1) := dk_90 (dk_at dksJ2_fastRemove_1 13 rfl rfl)
theorem dJ2_fastRemove_38 : decode cJ2_fastRemove 38 = .ok (.putfield 48, 3) := dk_181 0 48 (dk_at dksJ2_fastRemove_1 14 rfl rfl)
theorem dJ2_fastRemove_41 : decode cJ2_fastRemove 41 = .ok (.aconst_null, 1) := dk_1 (dk_at dksJ2_fastRemove_1 17 rfl rfl)
theorem dJ2_fastRemove_42 : decode cJ2_fastRemove 42 = .ok (.aastore, 1) := dk_83 (dk_at dksJ2_fastRemove_1 18 rfl rfl)
theorem dJ2_fastRemove_43 : decode cJ2_fastRemove 43 = .ok (.return_, 1) := dk_177 (dk_at dksJ2_fastRemove_1 19 rfl rfl)
abbrev cJ2_add_3 : ByteArray := prog_37_method_26_code
def yJ2_add_3 : MethodName := ⟨RJ2, "add", "(ILjava/lang/Object;)V"⟩
def dkwJ2_add_3_2 : List UInt8 := [29, 27, 100, 184, 0, 112, 25, 4, 27, 44, 83, 42, 29, 4, 96, 181, 0, 48, 177]
abbrev dktJ2_add_3_2 : List UInt8 := dkwJ2_add_3_2 ++ []
def dkwJ2_add_3_1 : List UInt8 := [180, 0, 9, 89, 58, 4, 190, 160, 0, 9, 42, 182, 0, 129, 58, 4, 25, 4, 27, 25, 4, 27, 4, 96]
abbrev dktJ2_add_3_1 : List UInt8 := dkwJ2_add_3_1 ++ dktJ2_add_3_2
def dkwJ2_add_3_0 : List UInt8 := [42, 27, 182, 0, 135, 42, 89, 180, 0, 63, 4, 96, 181, 0, 63, 42, 180, 0, 48, 89, 62, 42]
abbrev dktJ2_add_3_0 : List UInt8 := dkwJ2_add_3_0 ++ dktJ2_add_3_1
theorem dksJ2_add_3_0 : cJ2_add_3.data.toList.drop 0 = dktJ2_add_3_0 := by decide +kernel
theorem dksJ2_add_3_1 : cJ2_add_3.data.toList.drop 22 = dktJ2_add_3_1 := dk_seg dksJ2_add_3_0 22 rfl rfl
theorem dksJ2_add_3_2 : cJ2_add_3.data.toList.drop 46 = dktJ2_add_3_2 := dk_seg dksJ2_add_3_1 24 rfl rfl
theorem dJ2_add_3_0 : decode cJ2_add_3 0 = .ok (.aload_n 0, 1) := dk_42 (dk_at dksJ2_add_3_0 0 rfl rfl)
theorem dJ2_add_3_1 : decode cJ2_add_3 1 = .ok (.iload_n 1, 1) := dk_27 (dk_at dksJ2_add_3_0 1 rfl rfl)
theorem dJ2_add_3_2 : decode cJ2_add_3 2 = .ok (.invokevirtual 135, 3) := dk_182 0 135 (dk_at dksJ2_add_3_0 2 rfl rfl)
theorem dJ2_add_3_5 : decode cJ2_add_3 5 = .ok (.aload_n 0, 1) := dk_42 (dk_at dksJ2_add_3_0 5 rfl rfl)
theorem dJ2_add_3_6 : decode cJ2_add_3 6 = .ok (.dup, 1) := dk_89 (dk_at dksJ2_add_3_0 6 rfl rfl)
theorem dJ2_add_3_7 : decode cJ2_add_3 7 = .ok (.getfield 63, 3) := dk_180 0 63 (dk_at dksJ2_add_3_0 7 rfl rfl)
theorem dJ2_add_3_10 : decode cJ2_add_3 10 = .ok (.iconst 1, 1) := dk_4 (dk_at dksJ2_add_3_0 10 rfl rfl)
theorem dJ2_add_3_11 : decode cJ2_add_3 11 = .ok (.iadd, 1) := dk_96 (dk_at dksJ2_add_3_0 11 rfl rfl)
theorem dJ2_add_3_12 : decode cJ2_add_3 12 = .ok (.putfield 63, 3) := dk_181 0 63 (dk_at dksJ2_add_3_0 12 rfl rfl)
theorem dJ2_add_3_15 : decode cJ2_add_3 15 = .ok (.aload_n 0, 1) := dk_42 (dk_at dksJ2_add_3_0 15 rfl rfl)
theorem dJ2_add_3_16 : decode cJ2_add_3 16 = .ok (.getfield 48, 3) := dk_180 0 48 (dk_at dksJ2_add_3_0 16 rfl rfl)
theorem dJ2_add_3_19 : decode cJ2_add_3 19 = .ok (.dup, 1) := dk_89 (dk_at dksJ2_add_3_0 19 rfl rfl)
theorem dJ2_add_3_20 : decode cJ2_add_3 20 = .ok (.istore_n 3, 1) := dk_62 (dk_at dksJ2_add_3_0 20 rfl rfl)
theorem dJ2_add_3_21 : decode cJ2_add_3 21 = .ok (.aload_n 0, 1) := dk_42 (dk_at dksJ2_add_3_0 21 rfl rfl)
theorem dJ2_add_3_22 : decode cJ2_add_3 22 = .ok (.getfield 9, 3) := dk_180 0 9 (dk_at dksJ2_add_3_1 0 rfl rfl)
theorem dJ2_add_3_25 : decode cJ2_add_3 25 = .ok (.dup, 1) := dk_89 (dk_at dksJ2_add_3_1 3 rfl rfl)
theorem dJ2_add_3_26 : decode cJ2_add_3 26 = .ok (.astore 4, 2) := dk_58 4 (dk_at dksJ2_add_3_1 4 rfl rfl)
theorem dJ2_add_3_28 : decode cJ2_add_3 28 = .ok (.arraylength, 1) := dk_190 (dk_at dksJ2_add_3_1 6 rfl rfl)
theorem dJ2_add_3_29 : decode cJ2_add_3 29 = .ok (.if_icmp .ne 9, 3) := dk_160 0 9 (dk_at dksJ2_add_3_1 7 rfl rfl)
theorem dJ2_add_3_32 : decode cJ2_add_3 32 = .ok (.aload_n 0, 1) := dk_42 (dk_at dksJ2_add_3_1 10 rfl rfl)
theorem dJ2_add_3_33 : decode cJ2_add_3 33 = .ok (.invokevirtual 129, 3) := dk_182 0 129 (dk_at dksJ2_add_3_1 11 rfl rfl)
theorem dJ2_add_3_36 : decode cJ2_add_3 36 = .ok (.astore 4, 2) := dk_58 4 (dk_at dksJ2_add_3_1 14 rfl rfl)
theorem dJ2_add_3_38 : decode cJ2_add_3 38 = .ok (.aload 4, 2) := dk_25 4 (dk_at dksJ2_add_3_1 16 rfl rfl)
theorem dJ2_add_3_40 : decode cJ2_add_3 40 = .ok (.iload_n 1, 1) := dk_27 (dk_at dksJ2_add_3_1 18 rfl rfl)
theorem dJ2_add_3_41 : decode cJ2_add_3 41 = .ok (.aload 4, 2) := dk_25 4 (dk_at dksJ2_add_3_1 19 rfl rfl)
theorem dJ2_add_3_43 : decode cJ2_add_3 43 = .ok (.iload_n 1, 1) := dk_27 (dk_at dksJ2_add_3_1 21 rfl rfl)
theorem dJ2_add_3_44 : decode cJ2_add_3 44 = .ok (.iconst 1, 1) := dk_4 (dk_at dksJ2_add_3_1 22 rfl rfl)
theorem dJ2_add_3_45 : decode cJ2_add_3 45 = .ok (.iadd, 1) := dk_96 (dk_at dksJ2_add_3_1 23 rfl rfl)
theorem dJ2_add_3_46 : decode cJ2_add_3 46 = .ok (.iload_n 3, 1) := dk_29 (dk_at dksJ2_add_3_2 0 rfl rfl)
theorem dJ2_add_3_47 : decode cJ2_add_3 47 = .ok (.iload_n 1, 1) := dk_27 (dk_at dksJ2_add_3_2 1 rfl rfl)
theorem dJ2_add_3_48 : decode cJ2_add_3 48 = .ok (.isub, 1) := dk_100 (dk_at dksJ2_add_3_2 2 rfl rfl)
theorem dJ2_add_3_49 : decode cJ2_add_3 49 = .ok (.invokestatic 112, 3) := dk_184 0 112 (dk_at dksJ2_add_3_2 3 rfl rfl)
theorem dJ2_add_3_52 : decode cJ2_add_3 52 = .ok (.aload 4, 2) := dk_25 4 (dk_at dksJ2_add_3_2 6 rfl rfl)
theorem dJ2_add_3_54 : decode cJ2_add_3 54 = .ok (.iload_n 1, 1) := dk_27 (dk_at dksJ2_add_3_2 8 rfl rfl)
theorem dJ2_add_3_55 : decode cJ2_add_3 55 = .ok (.aload_n 2, 1) := dk_44 (dk_at dksJ2_add_3_2 9 rfl rfl)
theorem dJ2_add_3_56 : decode cJ2_add_3 56 = .ok (.aastore, 1) := dk_83 (dk_at dksJ2_add_3_2 10 rfl rfl)
theorem dJ2_add_3_57 : decode cJ2_add_3 57 = .ok (.aload_n 0, 1) := dk_42 (dk_at dksJ2_add_3_2 11 rfl rfl)
theorem dJ2_add_3_58 : decode cJ2_add_3 58 = .ok (.iload_n 3, 1) := dk_29 (dk_at dksJ2_add_3_2 12 rfl rfl)
theorem dJ2_add_3_59 : decode cJ2_add_3 59 = .ok (.iconst 1, 1) := dk_4 (dk_at dksJ2_add_3_2 13 rfl rfl)
theorem dJ2_add_3_60 : decode cJ2_add_3 60 = .ok (.iadd, 1) := dk_96 (dk_at dksJ2_add_3_2 14 rfl rfl)
theorem dJ2_add_3_61 : decode cJ2_add_3 61 = .ok (.putfield 48, 3) := dk_181 0 48 (dk_at dksJ2_add_3_2 15 rfl rfl)
theorem dJ2_add_3_64 : decode cJ2_add_3 64 = .ok (.return_, 1) := dk_177 (dk_at dksJ2_add_3_2 18 rfl rfl)
abbrev cJ2_rangeCheckForAdd : ByteArray := prog_37_method_45_code
def yJ2_rangeCheckForAdd : MethodName := ⟨RJ2, "rangeCheckForAdd", "(I)V"⟩
def dkwJ2_rangeCheckForAdd_1 : List UInt8 := [191, 177]
abbrev dktJ2_rangeCheckForAdd_1 : List UInt8 := dkwJ2_rangeCheckForAdd_1 ++ []
def dkwJ2_rangeCheckForAdd_0 : List UInt8 := [27, 42, 180, 0, 48, 163, 0, 7, 27, 156, 0, 16, 187, 0, 187, 89, 42, 27, 182, 0, 198, 183, 0, 193]
abbrev dktJ2_rangeCheckForAdd_0 : List UInt8 := dkwJ2_rangeCheckForAdd_0 ++ dktJ2_rangeCheckForAdd_1
theorem dksJ2_rangeCheckForAdd_0 : cJ2_rangeCheckForAdd.data.toList.drop 0 = dktJ2_rangeCheckForAdd_0 := by decide +kernel
theorem dksJ2_rangeCheckForAdd_1 : cJ2_rangeCheckForAdd.data.toList.drop 24 = dktJ2_rangeCheckForAdd_1 := dk_seg dksJ2_rangeCheckForAdd_0 24 rfl rfl
theorem dJ2_rangeCheckForAdd_0 : decode cJ2_rangeCheckForAdd 0 = .ok (.iload_n 1, 1) := dk_27 (dk_at dksJ2_rangeCheckForAdd_0 0 rfl rfl)
theorem dJ2_rangeCheckForAdd_1 : decode cJ2_rangeCheckForAdd 1 = .ok (.aload_n 0, 1) := dk_42 (dk_at dksJ2_rangeCheckForAdd_0 1 rfl rfl)
theorem dJ2_rangeCheckForAdd_2 : decode cJ2_rangeCheckForAdd 2 = .ok (.getfield 48, 3) := dk_180 0 48 (dk_at dksJ2_rangeCheckForAdd_0 2 rfl rfl)
theorem dJ2_rangeCheckForAdd_5 : decode cJ2_rangeCheckForAdd 5 = .ok (.if_icmp .gt 7, 3) := dk_163 0 7 (dk_at dksJ2_rangeCheckForAdd_0 5 rfl rfl)
theorem dJ2_rangeCheckForAdd_8 : decode cJ2_rangeCheckForAdd 8 = .ok (.iload_n 1, 1) := dk_27 (dk_at dksJ2_rangeCheckForAdd_0 8 rfl rfl)
theorem dJ2_rangeCheckForAdd_9 : decode cJ2_rangeCheckForAdd 9 = .ok (.ifCond .ge 16, 3) := dk_156 0 16 (dk_at dksJ2_rangeCheckForAdd_0 9 rfl rfl)
theorem dJ2_rangeCheckForAdd_12 : decode cJ2_rangeCheckForAdd 12 = .ok (.new 187, 3) := dk_187 0 187 (dk_at dksJ2_rangeCheckForAdd_0 12 rfl rfl)
theorem dJ2_rangeCheckForAdd_15 : decode cJ2_rangeCheckForAdd 15 = .ok (.dup, 1) := dk_89 (dk_at dksJ2_rangeCheckForAdd_0 15 rfl rfl)
theorem dJ2_rangeCheckForAdd_16 : decode cJ2_rangeCheckForAdd 16 = .ok (.aload_n 0, 1) := dk_42 (dk_at dksJ2_rangeCheckForAdd_0 16 rfl rfl)
theorem dJ2_rangeCheckForAdd_17 : decode cJ2_rangeCheckForAdd 17 = .ok (.iload_n 1, 1) := dk_27 (dk_at dksJ2_rangeCheckForAdd_0 17 rfl rfl)
theorem dJ2_rangeCheckForAdd_18 : decode cJ2_rangeCheckForAdd 18 = .ok (.invokevirtual 198, 3) := dk_182 0 198 (dk_at dksJ2_rangeCheckForAdd_0 18 rfl rfl)
theorem dJ2_rangeCheckForAdd_21 : decode cJ2_rangeCheckForAdd 21 = .ok (.invokespecial 193, 3) := dk_183 0 193 (dk_at dksJ2_rangeCheckForAdd_0 21 rfl rfl)
theorem dJ2_rangeCheckForAdd_24 : decode cJ2_rangeCheckForAdd 24 = .ok (.athrow, 1) := dk_191 (dk_at dksJ2_rangeCheckForAdd_1 0 rfl rfl)
theorem dJ2_rangeCheckForAdd_25 : decode cJ2_rangeCheckForAdd 25 = .ok (.return_, 1) := dk_177 (dk_at dksJ2_rangeCheckForAdd_1 1 rfl rfl)
abbrev cJ2_outOfBoundsMsg : ByteArray := prog_37_method_46_code
def yJ2_outOfBoundsMsg : MethodName := ⟨RJ2, "outOfBoundsMsg", "(I)Ljava/lang/String;"⟩
def dkwJ2_outOfBoundsMsg_1 : List UInt8 := [180, 0, 48, 182, 0, 29, 182, 0, 32, 176]
abbrev dktJ2_outOfBoundsMsg_1 : List UInt8 := dkwJ2_outOfBoundsMsg_1 ++ []
def dkwJ2_outOfBoundsMsg_0 : List UInt8 := [187, 0, 20, 89, 183, 0, 22, 18, 201, 182, 0, 25, 27, 182, 0, 29, 18, 203, 182, 0, 25, 42]
abbrev dktJ2_outOfBoundsMsg_0 : List UInt8 := dkwJ2_outOfBoundsMsg_0 ++ dktJ2_outOfBoundsMsg_1
theorem dksJ2_outOfBoundsMsg_0 : cJ2_outOfBoundsMsg.data.toList.drop 0 = dktJ2_outOfBoundsMsg_0 := by decide +kernel
theorem dksJ2_outOfBoundsMsg_1 : cJ2_outOfBoundsMsg.data.toList.drop 22 = dktJ2_outOfBoundsMsg_1 := dk_seg dksJ2_outOfBoundsMsg_0 22 rfl rfl
theorem dJ2_outOfBoundsMsg_0 : decode cJ2_outOfBoundsMsg 0 = .ok (.new 20, 3) := dk_187 0 20 (dk_at dksJ2_outOfBoundsMsg_0 0 rfl rfl)
theorem dJ2_outOfBoundsMsg_3 : decode cJ2_outOfBoundsMsg 3 = .ok (.dup, 1) := dk_89 (dk_at dksJ2_outOfBoundsMsg_0 3 rfl rfl)
theorem dJ2_outOfBoundsMsg_4 : decode cJ2_outOfBoundsMsg 4 = .ok (.invokespecial 22, 3) := dk_183 0 22 (dk_at dksJ2_outOfBoundsMsg_0 4 rfl rfl)
theorem dJ2_outOfBoundsMsg_7 : decode cJ2_outOfBoundsMsg 7 = .ok (.ldc 201, 2) := dk_18 201 (dk_at dksJ2_outOfBoundsMsg_0 7 rfl rfl)
theorem dJ2_outOfBoundsMsg_9 : decode cJ2_outOfBoundsMsg 9 = .ok (.invokevirtual 25, 3) := dk_182 0 25 (dk_at dksJ2_outOfBoundsMsg_0 9 rfl rfl)
theorem dJ2_outOfBoundsMsg_12 : decode cJ2_outOfBoundsMsg 12 = .ok (.iload_n 1, 1) := dk_27 (dk_at dksJ2_outOfBoundsMsg_0 12 rfl rfl)
theorem dJ2_outOfBoundsMsg_13 : decode cJ2_outOfBoundsMsg 13 = .ok (.invokevirtual 29, 3) := dk_182 0 29 (dk_at dksJ2_outOfBoundsMsg_0 13 rfl rfl)
theorem dJ2_outOfBoundsMsg_16 : decode cJ2_outOfBoundsMsg 16 = .ok (.ldc 203, 2) := dk_18 203 (dk_at dksJ2_outOfBoundsMsg_0 16 rfl rfl)
theorem dJ2_outOfBoundsMsg_18 : decode cJ2_outOfBoundsMsg 18 = .ok (.invokevirtual 25, 3) := dk_182 0 25 (dk_at dksJ2_outOfBoundsMsg_0 18 rfl rfl)
theorem dJ2_outOfBoundsMsg_21 : decode cJ2_outOfBoundsMsg 21 = .ok (.aload_n 0, 1) := dk_42 (dk_at dksJ2_outOfBoundsMsg_0 21 rfl rfl)
theorem dJ2_outOfBoundsMsg_22 : decode cJ2_outOfBoundsMsg 22 = .ok (.getfield 48, 3) := dk_180 0 48 (dk_at dksJ2_outOfBoundsMsg_1 0 rfl rfl)
theorem dJ2_outOfBoundsMsg_25 : decode cJ2_outOfBoundsMsg 25 = .ok (.invokevirtual 29, 3) := dk_182 0 29 (dk_at dksJ2_outOfBoundsMsg_1 3 rfl rfl)
theorem dJ2_outOfBoundsMsg_28 : decode cJ2_outOfBoundsMsg 28 = .ok (.invokevirtual 32, 3) := dk_182 0 32 (dk_at dksJ2_outOfBoundsMsg_1 6 rfl rfl)
theorem dJ2_outOfBoundsMsg_31 : decode cJ2_outOfBoundsMsg 31 = .ok (.areturn, 1) := dk_176 (dk_at dksJ2_outOfBoundsMsg_1 9 rfl rfl)
theorem q59 : (Jvm.Cond.initialized "java/util/ArrayList") ∈ lw_all := lw_g (lw_at lw_m1 4 rfl) rfl
theorem q105 : (Jvm.Cond.instantiable "java/util/ArrayList" (3 : Nat)) ∈ lw_all := lw_g (lw_at lw_m1 50 rfl) rfl
theorem q107 : (Jvm.Cond.instanceMethod ({ cls := "java/util/ArrayList", name := "<init>", desc := "()V" } : Jvm.MethodName)) ∈ lw_all := lw_g (lw_at lw_m1 52 rfl) rfl
theorem q108 : (Jvm.Cond.code ({ cls := "java/util/ArrayList", name := "<init>", desc := "()V" } : Jvm.MethodName) prog_37_method_2_code (1 : Nat) (Option.none : Option Jvm.ClassFile.FieldType)) ∈ lw_all := lw_g (lw_at lw_m1 53 rfl) rfl
theorem q109 : (Jvm.Cond.methodLink "java/util/ArrayList" (1 : Nat) ({ cls := "java/util/AbstractList", name := "<init>", desc := "()V" } : Jvm.MethodName)) ∈ lw_all := lw_g (lw_at lw_m1 54 rfl) rfl
theorem q116 : (Jvm.Cond.fieldLink "java/util/ArrayList" (39 : Nat) "java/util/ArrayList" "DEFAULTCAPACITY_EMPTY_ELEMENTDATA" "[Ljava/lang/Object;") ∈ lw_all := lw_g (lw_at lw_m1 61 rfl) rfl
theorem q117 : (Jvm.Cond.laysStatic "java/util/ArrayList" "DEFAULTCAPACITY_EMPTY_ELEMENTDATA" "[Ljava/lang/Object;") ∈ lw_tbl := lw_at lw_m1 62 rfl
theorem q118 : (Jvm.Cond.fieldLink "java/util/ArrayList" (9 : Nat) "java/util/ArrayList" "elementData" "[Ljava/lang/Object;") ∈ lw_all := lw_g (lw_at lw_m1 63 rfl) rfl
theorem q121 : (Jvm.Cond.fieldLink "java/util/ArrayList" (48 : Nat) "java/util/ArrayList" "size" "I") ∈ lw_all := lw_g (lw_at lw_m1 66 rfl) rfl
theorem q124 : (Jvm.Cond.sameField "java/util/ArrayList" "java/util/AbstractList" "modCount" "I") ∈ lw_all := lw_g (lw_at lw_m1 69 rfl) rfl
theorem q125 : (Jvm.Cond.fieldLink "java/util/ArrayList" (63 : Nat) "java/util/ArrayList" "modCount" "I") ∈ lw_all := lw_g (lw_at lw_m1 70 rfl) rfl
theorem q126 : (Jvm.Cond.lays "java/util/ArrayList" "java/util/ArrayList" "elementData" "[Ljava/lang/Object;") ∈ lw_all := lw_g (lw_at lw_m1 71 rfl) rfl
theorem q127 : (Jvm.Cond.soleField "java/util/ArrayList" "elementData") ∈ lw_all := lw_g (lw_at lw_m1 72 rfl) rfl
theorem q128 : (Jvm.Cond.lays "java/util/ArrayList" "java/util/ArrayList" "size" "I") ∈ lw_all := lw_g (lw_at lw_m1 73 rfl) rfl
theorem q129 : (Jvm.Cond.soleField "java/util/ArrayList" "size") ∈ lw_all := lw_g (lw_at lw_m1 74 rfl) rfl
theorem q130 : (Jvm.Cond.lays "java/util/ArrayList" "java/util/AbstractList" "modCount" "I") ∈ lw_all := lw_g (lw_at lw_m1 75 rfl) rfl
theorem q132 : (Jvm.Cond.superclass "java/util/ArrayList" "java/util/AbstractList") ∈ lw_all := lw_g (lw_at lw_m1 77 rfl) rfl
theorem q154 : (Jvm.Cond.instanceMethod ({ cls := "java/util/ArrayList", name := "add", desc := "(Ljava/lang/Object;)Z" } : Jvm.MethodName)) ∈ lw_all := lw_g (lw_at lw_m1 99 rfl) rfl
theorem q155 : (Jvm.Cond.selects "java/util/ArrayList" ({ cls := "java/util/ArrayList", name := "add", desc := "(Ljava/lang/Object;)Z" } : Jvm.MethodName) ({ cls := "java/util/ArrayList", name := "add", desc := "(Ljava/lang/Object;)Z" } : Jvm.MethodName)) ∈ lw_all := lw_g (lw_at lw_m1 100 rfl) rfl
theorem q156 : (Jvm.Cond.code ({ cls := "java/util/ArrayList", name := "add", desc := "(Ljava/lang/Object;)Z" } : Jvm.MethodName) prog_37_method_25_code (2 : Nat) (Option.some Jvm.ClassFile.FieldType.boolean)) ∈ lw_all := lw_g (lw_at lw_m1 101 rfl) rfl
theorem q157 : (Jvm.Cond.methodLink "java/util/ArrayList" (131 : Nat) ({ cls := "java/util/ArrayList", name := "add", desc := "(Ljava/lang/Object;[Ljava/lang/Object;I)V" } : Jvm.MethodName)) ∈ lw_all := lw_g (lw_at lw_m1 102 rfl) rfl
theorem q158 : (Jvm.Cond.privateMethod ({ cls := "java/util/ArrayList", name := "add", desc := "(Ljava/lang/Object;[Ljava/lang/Object;I)V" } : Jvm.MethodName)) ∈ lw_tbl := lw_at lw_m1 103 rfl
theorem q159 : (Jvm.Cond.instanceMethod ({ cls := "java/util/ArrayList", name := "add", desc := "(Ljava/lang/Object;[Ljava/lang/Object;I)V" } : Jvm.MethodName)) ∈ lw_all := lw_g (lw_at lw_m1 104 rfl) rfl
theorem q160 : (Jvm.Cond.code ({ cls := "java/util/ArrayList", name := "add", desc := "(Ljava/lang/Object;[Ljava/lang/Object;I)V" } : Jvm.MethodName) prog_37_method_24_code (4 : Nat) (Option.none : Option Jvm.ClassFile.FieldType)) ∈ lw_all := lw_g (lw_at lw_m1 105 rfl) rfl
theorem q161 : (Jvm.Cond.methodLink "java/util/ArrayList" (129 : Nat) ({ cls := "java/util/ArrayList", name := "grow", desc := "()[Ljava/lang/Object;" } : Jvm.MethodName)) ∈ lw_all := lw_g (lw_at lw_m1 106 rfl) rfl
theorem q162 : (Jvm.Cond.privateMethod ({ cls := "java/util/ArrayList", name := "grow", desc := "()[Ljava/lang/Object;" } : Jvm.MethodName)) ∈ lw_tbl := lw_at lw_m1 107 rfl
theorem q163 : (Jvm.Cond.instanceMethod ({ cls := "java/util/ArrayList", name := "grow", desc := "()[Ljava/lang/Object;" } : Jvm.MethodName)) ∈ lw_all := lw_g (lw_at lw_m1 108 rfl) rfl
theorem q164 : (Jvm.Cond.code ({ cls := "java/util/ArrayList", name := "grow", desc := "()[Ljava/lang/Object;" } : Jvm.MethodName) prog_37_method_7_code (1 : Nat) (Option.some (Jvm.ClassFile.FieldType.array (Jvm.ClassFile.FieldType.object "java/lang/Object")))) ∈ lw_all := lw_g (lw_at lw_m1 109 rfl) rfl
theorem q165 : (Jvm.Cond.methodLink "java/util/ArrayList" (69 : Nat) ({ cls := "java/util/ArrayList", name := "grow", desc := "(I)[Ljava/lang/Object;" } : Jvm.MethodName)) ∈ lw_all := lw_g (lw_at lw_m1 110 rfl) rfl
theorem q166 : (Jvm.Cond.privateMethod ({ cls := "java/util/ArrayList", name := "grow", desc := "(I)[Ljava/lang/Object;" } : Jvm.MethodName)) ∈ lw_tbl := lw_at lw_m1 111 rfl
theorem q167 : (Jvm.Cond.instanceMethod ({ cls := "java/util/ArrayList", name := "grow", desc := "(I)[Ljava/lang/Object;" } : Jvm.MethodName)) ∈ lw_all := lw_g (lw_at lw_m1 112 rfl) rfl
theorem q168 : (Jvm.Cond.code ({ cls := "java/util/ArrayList", name := "grow", desc := "(I)[Ljava/lang/Object;" } : Jvm.MethodName) prog_37_method_6_code (4 : Nat) (Option.some (Jvm.ClassFile.FieldType.array (Jvm.ClassFile.FieldType.object "java/lang/Object")))) ∈ lw_all := lw_g (lw_at lw_m1 113 rfl) rfl
theorem q169 : (Jvm.Cond.methodLink "java/util/ArrayList" (73 : Nat) ({ cls := "jdk/internal/util/ArraysSupport", name := "newLength", desc := "(III)I" } : Jvm.MethodName)) ∈ lw_all := lw_g (lw_at lw_m1 114 rfl) rfl
theorem q179 : (Jvm.Cond.methodLink "java/util/ArrayList" (66 : Nat) ({ cls := "java/util/Arrays", name := "copyOf", desc := "([Ljava/lang/Object;I)[Ljava/lang/Object;" } : Jvm.MethodName)) ∈ lw_all := lw_g (lw_at lw_m1 124 rfl) rfl
theorem q198 : (Jvm.Cond.selects "java/util/ArrayList" ({ cls := "java/lang/Object", name := "getClass", desc := "()Ljava/lang/Class;" } : Jvm.MethodName) ({ cls := "java/lang/Object", name := "getClass", desc := "()Ljava/lang/Class;" } : Jvm.MethodName)) ∈ lw_all := lw_g (lw_at lw_m1 143 rfl) rfl
theorem q216 : (Jvm.Cond.methodLink "java/util/ArrayList" (79 : Nat) ({ cls := "java/lang/Math", name := "max", desc := "(II)I" } : Jvm.MethodName)) ∈ lw_all := lw_g (lw_at lw_m1 161 rfl) rfl
theorem q217 : (Jvm.Cond.classLink "java/util/ArrayList" (7 : Nat) "java/lang/Object") ∈ lw_all := lw_g (lw_at lw_m1 162 rfl) rfl
theorem q415 : (Jvm.Cond.instanceMethod ({ cls := "java/util/ArrayList", name := "iterator", desc := "()Ljava/util/Iterator;" } : Jvm.MethodName)) ∈ lw_all := lw_g (lw_at lw_m2 120 rfl) rfl
theorem q416 : (Jvm.Cond.selects "java/util/ArrayList" ({ cls := "java/util/ArrayList", name := "iterator", desc := "()Ljava/util/Iterator;" } : Jvm.MethodName) ({ cls := "java/util/ArrayList", name := "iterator", desc := "()Ljava/util/Iterator;" } : Jvm.MethodName)) ∈ lw_all := lw_g (lw_at lw_m2 121 rfl) rfl
theorem q417 : (Jvm.Cond.code ({ cls := "java/util/ArrayList", name := "iterator", desc := "()Ljava/util/Iterator;" } : Jvm.MethodName) prog_37_method_55_code (1 : Nat) (Option.some (Jvm.ClassFile.FieldType.object "java/util/Iterator"))) ∈ lw_all := lw_g (lw_at lw_m2 122 rfl) rfl
theorem q418 : (Jvm.Cond.classLink "java/util/ArrayList" (267 : Nat) "java/util/ArrayList$Itr") ∈ lw_all := lw_g (lw_at lw_m2 123 rfl) rfl
theorem q420 : (Jvm.Cond.methodLink "java/util/ArrayList" (269 : Nat) ({ cls := "java/util/ArrayList$Itr", name := "<init>", desc := "(Ljava/util/ArrayList;)V" } : Jvm.MethodName)) ∈ lw_all := lw_g (lw_at lw_m2 125 rfl) rfl
theorem q485 : (Jvm.Cond.instanceMethod ({ cls := "java/util/ArrayList", name := "get", desc := "(I)Ljava/lang/Object;" } : Jvm.MethodName)) ∈ lw_all := lw_g (lw_at lw_m2 190 rfl) rfl
theorem q486 : (Jvm.Cond.selects "java/util/ArrayList" ({ cls := "java/util/ArrayList", name := "get", desc := "(I)Ljava/lang/Object;" } : Jvm.MethodName) ({ cls := "java/util/ArrayList", name := "get", desc := "(I)Ljava/lang/Object;" } : Jvm.MethodName)) ∈ lw_all := lw_g (lw_at lw_m2 191 rfl) rfl
theorem q487 : (Jvm.Cond.code ({ cls := "java/util/ArrayList", name := "get", desc := "(I)Ljava/lang/Object;" } : Jvm.MethodName) prog_37_method_20_code (2 : Nat) (Option.some (Jvm.ClassFile.FieldType.object "java/lang/Object"))) ∈ lw_all := lw_g (lw_at lw_m2 192 rfl) rfl
theorem q488 : (Jvm.Cond.methodLink "java/util/ArrayList" (118 : Nat) ({ cls := "java/util/Objects", name := "checkIndex", desc := "(II)I" } : Jvm.MethodName)) ∈ lw_all := lw_g (lw_at lw_m2 193 rfl) rfl
theorem q494 : (Jvm.Cond.methodLink "java/util/ArrayList" (123 : Nat) ({ cls := "java/util/ArrayList", name := "elementData", desc := "(I)Ljava/lang/Object;" } : Jvm.MethodName)) ∈ lw_all := lw_g (lw_at lw_m2 199 rfl) rfl
theorem q495 : (Jvm.Cond.instanceMethod ({ cls := "java/util/ArrayList", name := "elementData", desc := "(I)Ljava/lang/Object;" } : Jvm.MethodName)) ∈ lw_all := lw_g (lw_at lw_m2 200 rfl) rfl
theorem q496 : (Jvm.Cond.selects "java/util/ArrayList" ({ cls := "java/util/ArrayList", name := "elementData", desc := "(I)Ljava/lang/Object;" } : Jvm.MethodName) ({ cls := "java/util/ArrayList", name := "elementData", desc := "(I)Ljava/lang/Object;" } : Jvm.MethodName)) ∈ lw_all := lw_g (lw_at lw_m2 201 rfl) rfl
theorem q497 : (Jvm.Cond.code ({ cls := "java/util/ArrayList", name := "elementData", desc := "(I)Ljava/lang/Object;" } : Jvm.MethodName) prog_37_method_18_code (2 : Nat) (Option.some (Jvm.ClassFile.FieldType.object "java/lang/Object"))) ∈ lw_all := lw_g (lw_at lw_m2 202 rfl) rfl
theorem q1051 : (Jvm.Cond.instanceMethod ({ cls := "java/util/ArrayList", name := "set", desc := "(ILjava/lang/Object;)Ljava/lang/Object;" } : Jvm.MethodName)) ∈ lw_all := lw_g (lw_at lw_m5 36 rfl) rfl
theorem q1052 : (Jvm.Cond.selects "java/util/ArrayList" ({ cls := "java/util/ArrayList", name := "set", desc := "(ILjava/lang/Object;)Ljava/lang/Object;" } : Jvm.MethodName) ({ cls := "java/util/ArrayList", name := "set", desc := "(ILjava/lang/Object;)Ljava/lang/Object;" } : Jvm.MethodName)) ∈ lw_all := lw_g (lw_at lw_m5 37 rfl) rfl
theorem q1053 : (Jvm.Cond.code ({ cls := "java/util/ArrayList", name := "set", desc := "(ILjava/lang/Object;)Ljava/lang/Object;" } : Jvm.MethodName) prog_37_method_23_code (4 : Nat) (Option.some (Jvm.ClassFile.FieldType.object "java/lang/Object"))) ∈ lw_all := lw_g (lw_at lw_m5 38 rfl) rfl
theorem q1138 : (Jvm.Cond.instanceMethod ({ cls := "java/util/ArrayList", name := "remove", desc := "(I)Ljava/lang/Object;" } : Jvm.MethodName)) ∈ lw_all := lw_g (lw_at lw_m5 123 rfl) rfl
theorem q1139 : (Jvm.Cond.selects "java/util/ArrayList" ({ cls := "java/util/ArrayList", name := "remove", desc := "(I)Ljava/lang/Object;" } : Jvm.MethodName) ({ cls := "java/util/ArrayList", name := "remove", desc := "(I)Ljava/lang/Object;" } : Jvm.MethodName)) ∈ lw_all := lw_g (lw_at lw_m5 124 rfl) rfl
theorem q1140 : (Jvm.Cond.code ({ cls := "java/util/ArrayList", name := "remove", desc := "(I)Ljava/lang/Object;" } : Jvm.MethodName) prog_37_method_29_code (4 : Nat) (Option.some (Jvm.ClassFile.FieldType.object "java/lang/Object"))) ∈ lw_all := lw_g (lw_at lw_m5 125 rfl) rfl
theorem q1141 : (Jvm.Cond.methodLink "java/util/ArrayList" (144 : Nat) ({ cls := "java/util/ArrayList", name := "fastRemove", desc := "([Ljava/lang/Object;I)V" } : Jvm.MethodName)) ∈ lw_all := lw_g (lw_at lw_m5 126 rfl) rfl
theorem q1142 : (Jvm.Cond.privateMethod ({ cls := "java/util/ArrayList", name := "fastRemove", desc := "([Ljava/lang/Object;I)V" } : Jvm.MethodName)) ∈ lw_tbl := lw_at lw_m5 127 rfl
theorem q1143 : (Jvm.Cond.instanceMethod ({ cls := "java/util/ArrayList", name := "fastRemove", desc := "([Ljava/lang/Object;I)V" } : Jvm.MethodName)) ∈ lw_all := lw_g (lw_at lw_m5 128 rfl) rfl
theorem q1144 : (Jvm.Cond.code ({ cls := "java/util/ArrayList", name := "fastRemove", desc := "([Ljava/lang/Object;I)V" } : Jvm.MethodName) prog_37_method_39_code (4 : Nat) (Option.none : Option Jvm.ClassFile.FieldType)) ∈ lw_all := lw_g (lw_at lw_m5 129 rfl) rfl
theorem q1145 : (Jvm.Cond.methodLink "java/util/ArrayList" (112 : Nat) ({ cls := "java/lang/System", name := "arraycopy", desc := "(Ljava/lang/Object;ILjava/lang/Object;II)V" } : Jvm.MethodName)) ∈ lw_all := lw_g (lw_at lw_m5 130 rfl) rfl
theorem q1147 : (Jvm.Cond.instanceMethod ({ cls := "java/util/ArrayList", name := "add", desc := "(ILjava/lang/Object;)V" } : Jvm.MethodName)) ∈ lw_all := lw_g (lw_at lw_m5 132 rfl) rfl
theorem q1148 : (Jvm.Cond.selects "java/util/ArrayList" ({ cls := "java/util/ArrayList", name := "add", desc := "(ILjava/lang/Object;)V" } : Jvm.MethodName) ({ cls := "java/util/ArrayList", name := "add", desc := "(ILjava/lang/Object;)V" } : Jvm.MethodName)) ∈ lw_all := lw_g (lw_at lw_m5 133 rfl) rfl
theorem q1149 : (Jvm.Cond.code ({ cls := "java/util/ArrayList", name := "add", desc := "(ILjava/lang/Object;)V" } : Jvm.MethodName) prog_37_method_26_code (5 : Nat) (Option.none : Option Jvm.ClassFile.FieldType)) ∈ lw_all := lw_g (lw_at lw_m5 134 rfl) rfl
theorem q1150 : (Jvm.Cond.methodLink "java/util/ArrayList" (135 : Nat) ({ cls := "java/util/ArrayList", name := "rangeCheckForAdd", desc := "(I)V" } : Jvm.MethodName)) ∈ lw_all := lw_g (lw_at lw_m5 135 rfl) rfl
theorem q1151 : (Jvm.Cond.privateMethod ({ cls := "java/util/ArrayList", name := "rangeCheckForAdd", desc := "(I)V" } : Jvm.MethodName)) ∈ lw_tbl := lw_at lw_m5 136 rfl
theorem q1152 : (Jvm.Cond.instanceMethod ({ cls := "java/util/ArrayList", name := "rangeCheckForAdd", desc := "(I)V" } : Jvm.MethodName)) ∈ lw_all := lw_g (lw_at lw_m5 137 rfl) rfl
theorem q1153 : (Jvm.Cond.code ({ cls := "java/util/ArrayList", name := "rangeCheckForAdd", desc := "(I)V" } : Jvm.MethodName) prog_37_method_45_code (2 : Nat) (Option.none : Option Jvm.ClassFile.FieldType)) ∈ lw_all := lw_g (lw_at lw_m5 138 rfl) rfl
theorem q1154 : (Jvm.Cond.classLink "java/util/ArrayList" (187 : Nat) "java/lang/IndexOutOfBoundsException") ∈ lw_all := lw_g (lw_at lw_m5 139 rfl) rfl
theorem q1155 : (Jvm.Cond.methodLink "java/util/ArrayList" (198 : Nat) ({ cls := "java/util/ArrayList", name := "outOfBoundsMsg", desc := "(I)Ljava/lang/String;" } : Jvm.MethodName)) ∈ lw_all := lw_g (lw_at lw_m5 140 rfl) rfl
theorem q1156 : (Jvm.Cond.privateMethod ({ cls := "java/util/ArrayList", name := "outOfBoundsMsg", desc := "(I)Ljava/lang/String;" } : Jvm.MethodName)) ∈ lw_tbl := lw_at lw_m5 141 rfl
theorem q1157 : (Jvm.Cond.instanceMethod ({ cls := "java/util/ArrayList", name := "outOfBoundsMsg", desc := "(I)Ljava/lang/String;" } : Jvm.MethodName)) ∈ lw_all := lw_g (lw_at lw_m5 142 rfl) rfl
theorem q1158 : (Jvm.Cond.code ({ cls := "java/util/ArrayList", name := "outOfBoundsMsg", desc := "(I)Ljava/lang/String;" } : Jvm.MethodName) prog_37_method_46_code (2 : Nat) (Option.some (Jvm.ClassFile.FieldType.object "java/lang/String"))) ∈ lw_all := lw_g (lw_at lw_m5 143 rfl) rfl
theorem q1159 : (Jvm.Cond.classLink "java/util/ArrayList" (20 : Nat) "java/lang/StringBuilder") ∈ lw_all := lw_g (lw_at lw_m5 144 rfl) rfl
theorem q1161 : (Jvm.Cond.methodLink "java/util/ArrayList" (22 : Nat) ({ cls := "java/lang/StringBuilder", name := "<init>", desc := "()V" } : Jvm.MethodName)) ∈ lw_all := lw_g (lw_at lw_m5 146 rfl) rfl
theorem q1187 : (Jvm.Cond.stringRef "java/util/ArrayList" (201 : Nat) "Index: ") ∈ lw_tbl := lw_at lw_m5 172 rfl
theorem q1188 : (Jvm.Cond.methodLink "java/util/ArrayList" (25 : Nat) ({ cls := "java/lang/StringBuilder", name := "append", desc := "(Ljava/lang/String;)Ljava/lang/StringBuilder;" } : Jvm.MethodName)) ∈ lw_all := lw_g (lw_at lw_m5 173 rfl) rfl
theorem q1269 : (Jvm.Cond.methodLink "java/util/ArrayList" (29 : Nat) ({ cls := "java/lang/StringBuilder", name := "append", desc := "(I)Ljava/lang/StringBuilder;" } : Jvm.MethodName)) ∈ lw_all := lw_g (lw_at lw_m6 14 rfl) rfl
theorem q1294 : (Jvm.Cond.stringRef "java/util/ArrayList" (203 : Nat) ", Size: ") ∈ lw_tbl := lw_at lw_m6 39 rfl
theorem q1295 : (Jvm.Cond.methodLink "java/util/ArrayList" (32 : Nat) ({ cls := "java/lang/StringBuilder", name := "toString", desc := "()Ljava/lang/String;" } : Jvm.MethodName)) ∈ lw_all := lw_g (lw_at lw_m6 40 rfl) rfl
theorem q1358 : (Jvm.Cond.methodLink "java/util/ArrayList" (193 : Nat) ({ cls := "java/lang/IndexOutOfBoundsException", name := "<init>", desc := "(Ljava/lang/String;)V" } : Jvm.MethodName)) ∈ lw_all := lw_g (lw_at lw_m6 103 rfl) rfl
theorem q1884 : (Jvm.Cond.castable "java/util/ArrayList" "java/lang/Object") ∈ lw_tbl := lw_at lw_m8 149 rfl
theorem in_J2 : ∀ w ∈ wsJ20, w ∈ lw_all := lw_in wsJ20 [130, 126, 128] (by decide +kernel) (by decide +kernel)

/-! java/lang/Number -/
set_option maxRecDepth 100000
def RJ3 : String := "java/lang/Number"
abbrev cJ3_init : ByteArray := prog_24_method_1_code
def yJ3_init : MethodName := ⟨RJ3, "<init>", "()V"⟩
theorem dJ3_init_0 : decode cJ3_init 0 = .ok (.aload_n 0, 1) := by decide +kernel
theorem dJ3_init_1 : decode cJ3_init 1 = .ok (.invokespecial 1, 3) := by decide +kernel
theorem dJ3_init_4 : decode cJ3_init 4 = .ok (.return_, 1) := by decide +kernel
theorem q60 : (Jvm.Cond.initialized "java/lang/Number") ∈ lw_all := lw_g (lw_at lw_m1 5 rfl) rfl
theorem q146 : (Jvm.Cond.instanceMethod ({ cls := "java/lang/Number", name := "<init>", desc := "()V" } : Jvm.MethodName)) ∈ lw_all := lw_g (lw_at lw_m1 91 rfl) rfl
theorem q147 : (Jvm.Cond.code ({ cls := "java/lang/Number", name := "<init>", desc := "()V" } : Jvm.MethodName) prog_24_method_1_code (1 : Nat) (Option.none : Option Jvm.ClassFile.FieldType)) ∈ lw_all := lw_g (lw_at lw_m1 92 rfl) rfl
theorem q148 : (Jvm.Cond.methodLink "java/lang/Number" (1 : Nat) ({ cls := "java/lang/Object", name := "<init>", desc := "()V" } : Jvm.MethodName)) ∈ lw_all := lw_g (lw_at lw_m1 93 rfl) rfl

/-! java/lang/Integer -/
set_option maxRecDepth 100000
def RJ4 : String := "java/lang/Integer"
def TJ4 : u_T := fun k => match k with
  | _ => ("java/lang/Integer", "value", "I", true)
def tyJ4 : Nat → FieldType := fun k => match k with
  | _ => .int
abbrev wsJ40 : List Cond := u_ws RJ4 TJ4 1
theorem nmJ4 : ∀ a, a < 1 → ∀ b, b < 1 → a ≠ b → (TJ4 a).2.1 ≠ (TJ4 b).2.1 := by decide +kernel
theorem tyJ4_ok : ∀ k, k < 1 → parseFieldDescriptor (TJ4 k).2.2.1 = some (tyJ4 k) := by decide +kernel
abbrev cJ4_valueOf : ByteArray := prog_19_method_22_code
def yJ4_valueOf : MethodName := ⟨RJ4, "valueOf", "(I)Ljava/lang/Integer;"⟩
def dkwJ4_valueOf_1 : List UInt8 := [187, 0, 1, 89, 26, 183, 0, 199, 176]
abbrev dktJ4_valueOf_1 : List UInt8 := dkwJ4_valueOf_1 ++ []
def dkwJ4_valueOf_0 : List UInt8 := [26, 16, 128, 161, 0, 20, 26, 178, 0, 191, 163, 0, 13, 178, 0, 195, 26, 17, 0, 128, 96, 50, 176]
abbrev dktJ4_valueOf_0 : List UInt8 := dkwJ4_valueOf_0 ++ dktJ4_valueOf_1
theorem dksJ4_valueOf_0 : cJ4_valueOf.data.toList.drop 0 = dktJ4_valueOf_0 := by decide +kernel
theorem dksJ4_valueOf_1 : cJ4_valueOf.data.toList.drop 23 = dktJ4_valueOf_1 := dk_seg dksJ4_valueOf_0 23 rfl rfl
theorem dJ4_valueOf_0 : decode cJ4_valueOf 0 = .ok (.iload_n 0, 1) := dk_26 (dk_at dksJ4_valueOf_0 0 rfl rfl)
theorem dJ4_valueOf_1 : decode cJ4_valueOf 1 = .ok (.bipush (-128), 2) := dk_16 128 (dk_at dksJ4_valueOf_0 1 rfl rfl)
theorem dJ4_valueOf_3 : decode cJ4_valueOf 3 = .ok (.if_icmp .lt 20, 3) := dk_161 0 20 (dk_at dksJ4_valueOf_0 3 rfl rfl)
theorem dJ4_valueOf_6 : decode cJ4_valueOf 6 = .ok (.iload_n 0, 1) := dk_26 (dk_at dksJ4_valueOf_0 6 rfl rfl)
theorem dJ4_valueOf_7 : decode cJ4_valueOf 7 = .ok (.getstatic 191, 3) := dk_178 0 191 (dk_at dksJ4_valueOf_0 7 rfl rfl)
theorem dJ4_valueOf_10 : decode cJ4_valueOf 10 = .ok (.if_icmp .gt 13, 3) := dk_163 0 13 (dk_at dksJ4_valueOf_0 10 rfl rfl)
theorem dJ4_valueOf_13 : decode cJ4_valueOf 13 = .ok (.getstatic 195, 3) := dk_178 0 195 (dk_at dksJ4_valueOf_0 13 rfl rfl)
theorem dJ4_valueOf_16 : decode cJ4_valueOf 16 = .ok (.iload_n 0, 1) := dk_26 (dk_at dksJ4_valueOf_0 16 rfl rfl)
theorem dJ4_valueOf_17 : decode cJ4_valueOf 17 = .ok (.sipush 128, 3) := dk_17 0 128 (dk_at dksJ4_valueOf_0 17 rfl rfl)
theorem dJ4_valueOf_20 : decode cJ4_valueOf 20 = .ok (.iadd, 1) := dk_96 (dk_at dksJ4_valueOf_0 20 rfl rfl)
theorem dJ4_valueOf_21 : decode cJ4_valueOf 21 = .ok (.aaload, 1) := dk_50 (dk_at dksJ4_valueOf_0 21 rfl rfl)
theorem dJ4_valueOf_22 : decode cJ4_valueOf 22 = .ok (.areturn, 1) := dk_176 (dk_at dksJ4_valueOf_0 22 rfl rfl)
theorem dJ4_valueOf_23 : decode cJ4_valueOf 23 = .ok (.new 1, 3) := dk_187 0 1 (dk_at dksJ4_valueOf_1 0 rfl rfl)
theorem dJ4_valueOf_26 : decode cJ4_valueOf 26 = .ok (.dup, 1) := dk_89 (dk_at dksJ4_valueOf_1 3 rfl rfl)
theorem dJ4_valueOf_27 : decode cJ4_valueOf 27 = .ok (.iload_n 0, 1) := dk_26 (dk_at dksJ4_valueOf_1 4 rfl rfl)
theorem dJ4_valueOf_28 : decode cJ4_valueOf 28 = .ok (.invokespecial 199, 3) := dk_183 0 199 (dk_at dksJ4_valueOf_1 5 rfl rfl)
theorem dJ4_valueOf_31 : decode cJ4_valueOf 31 = .ok (.areturn, 1) := dk_176 (dk_at dksJ4_valueOf_1 8 rfl rfl)
abbrev cJ4_init : ByteArray := prog_19_method_23_code
def yJ4_init : MethodName := ⟨RJ4, "<init>", "(I)V"⟩
def dkwJ4_init_0 : List UInt8 := [42, 183, 0, 202, 42, 27, 181, 0, 205, 177]
abbrev dktJ4_init_0 : List UInt8 := dkwJ4_init_0 ++ []
theorem dksJ4_init_0 : cJ4_init.data.toList.drop 0 = dktJ4_init_0 := by decide +kernel
theorem dJ4_init_0 : decode cJ4_init 0 = .ok (.aload_n 0, 1) := dk_42 (dk_at dksJ4_init_0 0 rfl rfl)
theorem dJ4_init_1 : decode cJ4_init 1 = .ok (.invokespecial 202, 3) := dk_183 0 202 (dk_at dksJ4_init_0 1 rfl rfl)
theorem dJ4_init_4 : decode cJ4_init 4 = .ok (.aload_n 0, 1) := dk_42 (dk_at dksJ4_init_0 4 rfl rfl)
theorem dJ4_init_5 : decode cJ4_init 5 = .ok (.iload_n 1, 1) := dk_27 (dk_at dksJ4_init_0 5 rfl rfl)
theorem dJ4_init_6 : decode cJ4_init 6 = .ok (.putfield 205, 3) := dk_181 0 205 (dk_at dksJ4_init_0 6 rfl rfl)
theorem dJ4_init_9 : decode cJ4_init 9 = .ok (.return_, 1) := dk_177 (dk_at dksJ4_init_0 9 rfl rfl)
abbrev cJ4_intValue : ByteArray := prog_19_method_27_code
def yJ4_intValue : MethodName := ⟨RJ4, "intValue", "()I"⟩
theorem dJ4_intValue_0 : decode cJ4_intValue 0 = .ok (.aload_n 0, 1) := by decide +kernel
theorem dJ4_intValue_1 : decode cJ4_intValue 1 = .ok (.getfield 205, 3) := by decide +kernel
theorem dJ4_intValue_4 : decode cJ4_intValue 4 = .ok (.ireturn, 1) := by decide +kernel
abbrev cJ4_compare : ByteArray := prog_19_method_40_code
def yJ4_compare : MethodName := ⟨RJ4, "compare", "(II)I"⟩
def dkwJ4_compare_0 : List UInt8 := [26, 27, 162, 0, 7, 2, 167, 0, 13, 26, 27, 160, 0, 7, 3, 167, 0, 4, 4, 172]
abbrev dktJ4_compare_0 : List UInt8 := dkwJ4_compare_0 ++ []
theorem dksJ4_compare_0 : cJ4_compare.data.toList.drop 0 = dktJ4_compare_0 := by decide +kernel
theorem dJ4_compare_0 : decode cJ4_compare 0 = .ok (.iload_n 0, 1) := dk_26 (dk_at dksJ4_compare_0 0 rfl rfl)
theorem dJ4_compare_1 : decode cJ4_compare 1 = .ok (.iload_n 1, 1) := dk_27 (dk_at dksJ4_compare_0 1 rfl rfl)
theorem dJ4_compare_2 : decode cJ4_compare 2 = .ok (.if_icmp .ge 7, 3) := dk_162 0 7 (dk_at dksJ4_compare_0 2 rfl rfl)
theorem dJ4_compare_5 : decode cJ4_compare 5 = .ok (.iconst (-1), 1) := dk_2 (dk_at dksJ4_compare_0 5 rfl rfl)
theorem dJ4_compare_6 : decode cJ4_compare 6 = .ok (.goto 13, 3) := dk_167 0 13 (dk_at dksJ4_compare_0 6 rfl rfl)
theorem dJ4_compare_9 : decode cJ4_compare 9 = .ok (.iload_n 0, 1) := dk_26 (dk_at dksJ4_compare_0 9 rfl rfl)
theorem dJ4_compare_10 : decode cJ4_compare 10 = .ok (.iload_n 1, 1) := dk_27 (dk_at dksJ4_compare_0 10 rfl rfl)
theorem dJ4_compare_11 : decode cJ4_compare 11 = .ok (.if_icmp .ne 7, 3) := dk_160 0 7 (dk_at dksJ4_compare_0 11 rfl rfl)
theorem dJ4_compare_14 : decode cJ4_compare 14 = .ok (.iconst 0, 1) := dk_3 (dk_at dksJ4_compare_0 14 rfl rfl)
theorem dJ4_compare_15 : decode cJ4_compare 15 = .ok (.goto 4, 3) := dk_167 0 4 (dk_at dksJ4_compare_0 15 rfl rfl)
theorem dJ4_compare_18 : decode cJ4_compare 18 = .ok (.iconst 1, 1) := dk_4 (dk_at dksJ4_compare_0 18 rfl rfl)
theorem dJ4_compare_19 : decode cJ4_compare 19 = .ok (.ireturn, 1) := dk_172 (dk_at dksJ4_compare_0 19 rfl rfl)
abbrev cJ4_compareTo : ByteArray := prog_19_method_63_code
def yJ4_compareTo : MethodName := ⟨RJ4, "compareTo", "(Ljava/lang/Object;)I"⟩
def dkwJ4_compareTo_0 : List UInt8 := [42, 43, 192, 0, 1, 182, 1, 28, 172]
abbrev dktJ4_compareTo_0 : List UInt8 := dkwJ4_compareTo_0 ++ []
theorem dksJ4_compareTo_0 : cJ4_compareTo.data.toList.drop 0 = dktJ4_compareTo_0 := by decide +kernel
theorem dJ4_compareTo_0 : decode cJ4_compareTo 0 = .ok (.aload_n 0, 1) := dk_42 (dk_at dksJ4_compareTo_0 0 rfl rfl)
theorem dJ4_compareTo_1 : decode cJ4_compareTo 1 = .ok (.aload_n 1, 1) := dk_43 (dk_at dksJ4_compareTo_0 1 rfl rfl)
theorem dJ4_compareTo_2 : decode cJ4_compareTo 2 = .ok (.checkcast 1, 3) := dk_192 0 1 (dk_at dksJ4_compareTo_0 2 rfl rfl)
theorem dJ4_compareTo_5 : decode cJ4_compareTo 5 = .ok (.invokevirtual 284, 3) := dk_182 1 28 (dk_at dksJ4_compareTo_0 5 rfl rfl)
theorem dJ4_compareTo_8 : decode cJ4_compareTo 8 = .ok (.ireturn, 1) := dk_172 (dk_at dksJ4_compareTo_0 8 rfl rfl)
abbrev cJ4_compareTo_2 : ByteArray := prog_19_method_39_code
def yJ4_compareTo_2 : MethodName := ⟨RJ4, "compareTo", "(Ljava/lang/Integer;)I"⟩
def dkwJ4_compareTo_2_0 : List UInt8 := [42, 180, 0, 205, 43, 180, 0, 205, 184, 1, 3, 172]
abbrev dktJ4_compareTo_2_0 : List UInt8 := dkwJ4_compareTo_2_0 ++ []
theorem dksJ4_compareTo_2_0 : cJ4_compareTo_2.data.toList.drop 0 = dktJ4_compareTo_2_0 := by decide +kernel
theorem dJ4_compareTo_2_0 : decode cJ4_compareTo_2 0 = .ok (.aload_n 0, 1) := dk_42 (dk_at dksJ4_compareTo_2_0 0 rfl rfl)
theorem dJ4_compareTo_2_1 : decode cJ4_compareTo_2 1 = .ok (.getfield 205, 3) := dk_180 0 205 (dk_at dksJ4_compareTo_2_0 1 rfl rfl)
theorem dJ4_compareTo_2_4 : decode cJ4_compareTo_2 4 = .ok (.aload_n 1, 1) := dk_43 (dk_at dksJ4_compareTo_2_0 4 rfl rfl)
theorem dJ4_compareTo_2_5 : decode cJ4_compareTo_2 5 = .ok (.getfield 205, 3) := dk_180 0 205 (dk_at dksJ4_compareTo_2_0 5 rfl rfl)
theorem dJ4_compareTo_2_8 : decode cJ4_compareTo_2 8 = .ok (.invokestatic 259, 3) := dk_184 1 3 (dk_at dksJ4_compareTo_2_0 8 rfl rfl)
theorem dJ4_compareTo_2_11 : decode cJ4_compareTo_2 11 = .ok (.ireturn, 1) := dk_172 (dk_at dksJ4_compareTo_2_0 11 rfl rfl)
abbrev cJ4_numberOfLeadingZeros : ByteArray := prog_19_method_47_code
def yJ4_numberOfLeadingZeros : MethodName := ⟨RJ4, "numberOfLeadingZeros", "(I)I"⟩
def dkwJ4_numberOfLeadingZeros_3 : List UInt8 := [5, 124, 59, 27, 26, 4, 124, 100, 172]
abbrev dktJ4_numberOfLeadingZeros_3 : List UInt8 := dkwJ4_numberOfLeadingZeros_3 ++ []
def dkwJ4_numberOfLeadingZeros_2 : List UInt8 := [124, 59, 26, 16, 16, 161, 0, 10, 132, 1, 252, 26, 7, 124, 59, 26, 7, 161, 0, 10, 132, 1, 254, 26]
abbrev dktJ4_numberOfLeadingZeros_2 : List UInt8 := dkwJ4_numberOfLeadingZeros_2 ++ dktJ4_numberOfLeadingZeros_3
def dkwJ4_numberOfLeadingZeros_1 : List UInt8 := [161, 0, 11, 132, 1, 240, 26, 16, 16, 124, 59, 26, 17, 1, 0, 161, 0, 11, 132, 1, 248, 26, 16, 8]
abbrev dktJ4_numberOfLeadingZeros_1 : List UInt8 := dkwJ4_numberOfLeadingZeros_1 ++ dktJ4_numberOfLeadingZeros_2
def dkwJ4_numberOfLeadingZeros_0 : List UInt8 := [26, 157, 0, 14, 26, 154, 0, 8, 16, 32, 167, 0, 4, 3, 172, 16, 31, 60, 26, 19, 1, 8]
abbrev dktJ4_numberOfLeadingZeros_0 : List UInt8 := dkwJ4_numberOfLeadingZeros_0 ++ dktJ4_numberOfLeadingZeros_1
theorem dksJ4_numberOfLeadingZeros_0 : cJ4_numberOfLeadingZeros.data.toList.drop 0 = dktJ4_numberOfLeadingZeros_0 := by decide +kernel
theorem dksJ4_numberOfLeadingZeros_1 : cJ4_numberOfLeadingZeros.data.toList.drop 22 = dktJ4_numberOfLeadingZeros_1 := dk_seg dksJ4_numberOfLeadingZeros_0 22 rfl rfl
theorem dksJ4_numberOfLeadingZeros_2 : cJ4_numberOfLeadingZeros.data.toList.drop 46 = dktJ4_numberOfLeadingZeros_2 := dk_seg dksJ4_numberOfLeadingZeros_1 24 rfl rfl
theorem dksJ4_numberOfLeadingZeros_3 : cJ4_numberOfLeadingZeros.data.toList.drop 70 = dktJ4_numberOfLeadingZeros_3 := dk_seg dksJ4_numberOfLeadingZeros_2 24 rfl rfl
theorem dJ4_numberOfLeadingZeros_0 : decode cJ4_numberOfLeadingZeros 0 = .ok (.iload_n 0, 1) := dk_26 (dk_at dksJ4_numberOfLeadingZeros_0 0 rfl rfl)
theorem dJ4_numberOfLeadingZeros_1 : decode cJ4_numberOfLeadingZeros 1 = .ok (.ifCond .gt 14, 3) := dk_157 0 14 (dk_at dksJ4_numberOfLeadingZeros_0 1 rfl rfl)
theorem dJ4_numberOfLeadingZeros_4 : decode cJ4_numberOfLeadingZeros 4 = .ok (.iload_n 0, 1) := dk_26 (dk_at dksJ4_numberOfLeadingZeros_0 4 rfl rfl)
theorem dJ4_numberOfLeadingZeros_5 : decode cJ4_numberOfLeadingZeros 5 = .ok (.ifCond .ne 8, 3) := dk_154 0 8 (dk_at dksJ4_numberOfLeadingZeros_0 5 rfl rfl)
theorem dJ4_numberOfLeadingZeros_8 : decode cJ4_numberOfLeadingZeros 8 = .ok (.bipush 32, 2) := dk_16 32 (dk_at dksJ4_numberOfLeadingZeros_0 8 rfl rfl)
theorem dJ4_numberOfLeadingZeros_10 : decode cJ4_numberOfLeadingZeros 10 = .ok (.goto 4, 3) := dk_167 0 4 (dk_at dksJ4_numberOfLeadingZeros_0 10 rfl rfl)
theorem dJ4_numberOfLeadingZeros_13 : decode cJ4_numberOfLeadingZeros 13 = .ok (.iconst 0, 1) := dk_3 (dk_at dksJ4_numberOfLeadingZeros_0 13 rfl rfl)
theorem dJ4_numberOfLeadingZeros_14 : decode cJ4_numberOfLeadingZeros 14 = .ok (.ireturn, 1) := dk_172 (dk_at dksJ4_numberOfLeadingZeros_0 14 rfl rfl)
theorem dJ4_numberOfLeadingZeros_15 : decode cJ4_numberOfLeadingZeros 15 = .ok (.bipush 31, 2) := dk_16 31 (dk_at dksJ4_numberOfLeadingZeros_0 15 rfl rfl)
theorem dJ4_numberOfLeadingZeros_17 : decode cJ4_numberOfLeadingZeros 17 = .ok (.istore_n 1, 1) := dk_60 (dk_at dksJ4_numberOfLeadingZeros_0 17 rfl rfl)
theorem dJ4_numberOfLeadingZeros_18 : decode cJ4_numberOfLeadingZeros 18 = .ok (.iload_n 0, 1) := dk_26 (dk_at dksJ4_numberOfLeadingZeros_0 18 rfl rfl)
theorem dJ4_numberOfLeadingZeros_19 : decode cJ4_numberOfLeadingZeros 19 = .ok (.ldc_w 264, 3) := dk_19 1 8 (dk_at dksJ4_numberOfLeadingZeros_0 19 rfl rfl)
theorem dJ4_numberOfLeadingZeros_22 : decode cJ4_numberOfLeadingZeros 22 = .ok (.if_icmp .lt 11, 3) := dk_161 0 11 (dk_at dksJ4_numberOfLeadingZeros_1 0 rfl rfl)
theorem dJ4_numberOfLeadingZeros_25 : decode cJ4_numberOfLeadingZeros 25 = .ok (.iinc 1 (-16), 3) := dk_132 1 240 (dk_at dksJ4_numberOfLeadingZeros_1 3 rfl rfl)
theorem dJ4_numberOfLeadingZeros_28 : decode cJ4_numberOfLeadingZeros 28 = .ok (.iload_n 0, 1) := dk_26 (dk_at dksJ4_numberOfLeadingZeros_1 6 rfl rfl)
theorem dJ4_numberOfLeadingZeros_29 : decode cJ4_numberOfLeadingZeros 29 = .ok (.bipush 16, 2) := dk_16 16 (dk_at dksJ4_numberOfLeadingZeros_1 7 rfl rfl)
theorem dJ4_numberOfLeadingZeros_31 : decode cJ4_numberOfLeadingZeros 31 = .ok (.iushr, 1) := dk_124 (dk_at dksJ4_numberOfLeadingZeros_1 9 rfl rfl)
theorem dJ4_numberOfLeadingZeros_32 : decode cJ4_numberOfLeadingZeros 32 = .ok (.istore_n 0, 1) := dk_59 (dk_at dksJ4_numberOfLeadingZeros_1 10 rfl rfl)
theorem dJ4_numberOfLeadingZeros_33 : decode cJ4_numberOfLeadingZeros 33 = .ok (.iload_n 0, 1) := dk_26 (dk_at dksJ4_numberOfLeadingZeros_1 11 rfl rfl)
theorem dJ4_numberOfLeadingZeros_34 : decode cJ4_numberOfLeadingZeros 34 = .ok (.sipush 256, 3) := dk_17 1 0 (dk_at dksJ4_numberOfLeadingZeros_1 12 rfl rfl)
theorem dJ4_numberOfLeadingZeros_37 : decode cJ4_numberOfLeadingZeros 37 = .ok (.if_icmp .lt 11, 3) := dk_161 0 11 (dk_at dksJ4_numberOfLeadingZeros_1 15 rfl rfl)
theorem dJ4_numberOfLeadingZeros_40 : decode cJ4_numberOfLeadingZeros 40 = .ok (.iinc 1 (-8), 3) := dk_132 1 248 (dk_at dksJ4_numberOfLeadingZeros_1 18 rfl rfl)
theorem dJ4_numberOfLeadingZeros_43 : decode cJ4_numberOfLeadingZeros 43 = .ok (.iload_n 0, 1) := dk_26 (dk_at dksJ4_numberOfLeadingZeros_1 21 rfl rfl)
theorem dJ4_numberOfLeadingZeros_44 : decode cJ4_numberOfLeadingZeros 44 = .ok (.bipush 8, 2) := dk_16 8 (dk_at dksJ4_numberOfLeadingZeros_1 22 rfl rfl)
theorem dJ4_numberOfLeadingZeros_46 : decode cJ4_numberOfLeadingZeros 46 = .ok (.iushr, 1) := dk_124 (dk_at dksJ4_numberOfLeadingZeros_2 0 rfl rfl)
theorem dJ4_numberOfLeadingZeros_47 : decode cJ4_numberOfLeadingZeros 47 = .ok (.istore_n 0, 1) := dk_59 (dk_at dksJ4_numberOfLeadingZeros_2 1 rfl rfl)
theorem dJ4_numberOfLeadingZeros_48 : decode cJ4_numberOfLeadingZeros 48 = .ok (.iload_n 0, 1) := dk_26 (dk_at dksJ4_numberOfLeadingZeros_2 2 rfl rfl)
theorem dJ4_numberOfLeadingZeros_49 : decode cJ4_numberOfLeadingZeros 49 = .ok (.bipush 16, 2) := dk_16 16 (dk_at dksJ4_numberOfLeadingZeros_2 3 rfl rfl)
theorem dJ4_numberOfLeadingZeros_51 : decode cJ4_numberOfLeadingZeros 51 = .ok (.if_icmp .lt 10, 3) := dk_161 0 10 (dk_at dksJ4_numberOfLeadingZeros_2 5 rfl rfl)
theorem dJ4_numberOfLeadingZeros_54 : decode cJ4_numberOfLeadingZeros 54 = .ok (.iinc 1 (-4), 3) := dk_132 1 252 (dk_at dksJ4_numberOfLeadingZeros_2 8 rfl rfl)
theorem dJ4_numberOfLeadingZeros_57 : decode cJ4_numberOfLeadingZeros 57 = .ok (.iload_n 0, 1) := dk_26 (dk_at dksJ4_numberOfLeadingZeros_2 11 rfl rfl)
theorem dJ4_numberOfLeadingZeros_58 : decode cJ4_numberOfLeadingZeros 58 = .ok (.iconst 4, 1) := dk_7 (dk_at dksJ4_numberOfLeadingZeros_2 12 rfl rfl)
theorem dJ4_numberOfLeadingZeros_59 : decode cJ4_numberOfLeadingZeros 59 = .ok (.iushr, 1) := dk_124 (dk_at dksJ4_numberOfLeadingZeros_2 13 rfl rfl)
theorem dJ4_numberOfLeadingZeros_60 : decode cJ4_numberOfLeadingZeros 60 = .ok (.istore_n 0, 1) := dk_59 (dk_at dksJ4_numberOfLeadingZeros_2 14 rfl rfl)
theorem dJ4_numberOfLeadingZeros_61 : decode cJ4_numberOfLeadingZeros 61 = .ok (.iload_n 0, 1) := dk_26 (dk_at dksJ4_numberOfLeadingZeros_2 15 rfl rfl)
theorem dJ4_numberOfLeadingZeros_62 : decode cJ4_numberOfLeadingZeros 62 = .ok (.iconst 4, 1) := dk_7 (dk_at dksJ4_numberOfLeadingZeros_2 16 rfl rfl)
theorem dJ4_numberOfLeadingZeros_63 : decode cJ4_numberOfLeadingZeros 63 = .ok (.if_icmp .lt 10, 3) := dk_161 0 10 (dk_at dksJ4_numberOfLeadingZeros_2 17 rfl rfl)
theorem dJ4_numberOfLeadingZeros_66 : decode cJ4_numberOfLeadingZeros 66 = .ok (.iinc 1 (-2), 3) := dk_132 1 254 (dk_at dksJ4_numberOfLeadingZeros_2 20 rfl rfl)
theorem dJ4_numberOfLeadingZeros_69 : decode cJ4_numberOfLeadingZeros 69 = .ok (.iload_n 0, 1) := dk_26 (dk_at dksJ4_numberOfLeadingZeros_2 23 rfl rfl)
theorem dJ4_numberOfLeadingZeros_70 : decode cJ4_numberOfLeadingZeros 70 = .ok (.iconst 2, 1) := dk_5 (dk_at dksJ4_numberOfLeadingZeros_3 0 rfl rfl)
theorem dJ4_numberOfLeadingZeros_71 : decode cJ4_numberOfLeadingZeros 71 = .ok (.iushr, 1) := dk_124 (dk_at dksJ4_numberOfLeadingZeros_3 1 rfl rfl)
theorem dJ4_numberOfLeadingZeros_72 : decode cJ4_numberOfLeadingZeros 72 = .ok (.istore_n 0, 1) := dk_59 (dk_at dksJ4_numberOfLeadingZeros_3 2 rfl rfl)
theorem dJ4_numberOfLeadingZeros_73 : decode cJ4_numberOfLeadingZeros 73 = .ok (.iload_n 1, 1) := dk_27 (dk_at dksJ4_numberOfLeadingZeros_3 3 rfl rfl)
theorem dJ4_numberOfLeadingZeros_74 : decode cJ4_numberOfLeadingZeros 74 = .ok (.iload_n 0, 1) := dk_26 (dk_at dksJ4_numberOfLeadingZeros_3 4 rfl rfl)
theorem dJ4_numberOfLeadingZeros_75 : decode cJ4_numberOfLeadingZeros 75 = .ok (.iconst 1, 1) := dk_4 (dk_at dksJ4_numberOfLeadingZeros_3 5 rfl rfl)
theorem dJ4_numberOfLeadingZeros_76 : decode cJ4_numberOfLeadingZeros 76 = .ok (.iushr, 1) := dk_124 (dk_at dksJ4_numberOfLeadingZeros_3 6 rfl rfl)
theorem dJ4_numberOfLeadingZeros_77 : decode cJ4_numberOfLeadingZeros 77 = .ok (.isub, 1) := dk_100 (dk_at dksJ4_numberOfLeadingZeros_3 7 rfl rfl)
theorem dJ4_numberOfLeadingZeros_78 : decode cJ4_numberOfLeadingZeros 78 = .ok (.ireturn, 1) := dk_172 (dk_at dksJ4_numberOfLeadingZeros_3 8 rfl rfl)
abbrev cJ4_numberOfTrailingZeros : ByteArray := prog_19_method_48_code
def yJ4_numberOfTrailingZeros : MethodName := ⟨RJ4, "numberOfTrailingZeros", "(I)I"⟩
def dkwJ4_numberOfTrailingZeros_3 : List UInt8 := [5, 124, 59, 27, 26, 4, 124, 96, 172]
abbrev dktJ4_numberOfTrailingZeros_3 : List UInt8 := dkwJ4_numberOfTrailingZeros_3 ++ []
def dkwJ4_numberOfTrailingZeros_2 : List UInt8 := [124, 59, 26, 16, 16, 164, 0, 10, 132, 1, 4, 26, 7, 124, 59, 26, 7, 164, 0, 10, 132, 1, 2, 26]
abbrev dktJ4_numberOfTrailingZeros_2 : List UInt8 := dkwJ4_numberOfTrailingZeros_2 ++ dktJ4_numberOfTrailingZeros_3
def dkwJ4_numberOfTrailingZeros_1 : List UInt8 := [164, 0, 11, 132, 1, 16, 26, 16, 16, 124, 59, 26, 17, 1, 0, 164, 0, 11, 132, 1, 8, 26, 16, 8]
abbrev dktJ4_numberOfTrailingZeros_1 : List UInt8 := dkwJ4_numberOfTrailingZeros_1 ++ dktJ4_numberOfTrailingZeros_2
def dkwJ4_numberOfTrailingZeros_0 : List UInt8 := [26, 2, 130, 26, 4, 100, 126, 59, 26, 157, 0, 8, 26, 16, 32, 126, 172, 4, 60, 26, 19, 1, 8]
abbrev dktJ4_numberOfTrailingZeros_0 : List UInt8 := dkwJ4_numberOfTrailingZeros_0 ++ dktJ4_numberOfTrailingZeros_1
theorem dksJ4_numberOfTrailingZeros_0 : cJ4_numberOfTrailingZeros.data.toList.drop 0 = dktJ4_numberOfTrailingZeros_0 := by decide +kernel
theorem dksJ4_numberOfTrailingZeros_1 : cJ4_numberOfTrailingZeros.data.toList.drop 23 = dktJ4_numberOfTrailingZeros_1 := dk_seg dksJ4_numberOfTrailingZeros_0 23 rfl rfl
theorem dksJ4_numberOfTrailingZeros_2 : cJ4_numberOfTrailingZeros.data.toList.drop 47 = dktJ4_numberOfTrailingZeros_2 := dk_seg dksJ4_numberOfTrailingZeros_1 24 rfl rfl
theorem dksJ4_numberOfTrailingZeros_3 : cJ4_numberOfTrailingZeros.data.toList.drop 71 = dktJ4_numberOfTrailingZeros_3 := dk_seg dksJ4_numberOfTrailingZeros_2 24 rfl rfl
theorem dJ4_numberOfTrailingZeros_0 : decode cJ4_numberOfTrailingZeros 0 = .ok (.iload_n 0, 1) := dk_26 (dk_at dksJ4_numberOfTrailingZeros_0 0 rfl rfl)
theorem dJ4_numberOfTrailingZeros_1 : decode cJ4_numberOfTrailingZeros 1 = .ok (.iconst (-1), 1) := dk_2 (dk_at dksJ4_numberOfTrailingZeros_0 1 rfl rfl)
theorem dJ4_numberOfTrailingZeros_2 : decode cJ4_numberOfTrailingZeros 2 = .ok (.ixor, 1) := dk_130 (dk_at dksJ4_numberOfTrailingZeros_0 2 rfl rfl)
theorem dJ4_numberOfTrailingZeros_3 : decode cJ4_numberOfTrailingZeros 3 = .ok (.iload_n 0, 1) := dk_26 (dk_at dksJ4_numberOfTrailingZeros_0 3 rfl rfl)
theorem dJ4_numberOfTrailingZeros_4 : decode cJ4_numberOfTrailingZeros 4 = .ok (.iconst 1, 1) := dk_4 (dk_at dksJ4_numberOfTrailingZeros_0 4 rfl rfl)
theorem dJ4_numberOfTrailingZeros_5 : decode cJ4_numberOfTrailingZeros 5 = .ok (.isub, 1) := dk_100 (dk_at dksJ4_numberOfTrailingZeros_0 5 rfl rfl)
theorem dJ4_numberOfTrailingZeros_6 : decode cJ4_numberOfTrailingZeros 6 = .ok (.iand, 1) := dk_126 (dk_at dksJ4_numberOfTrailingZeros_0 6 rfl rfl)
theorem dJ4_numberOfTrailingZeros_7 : decode cJ4_numberOfTrailingZeros 7 = .ok (.istore_n 0, 1) := dk_59 (dk_at dksJ4_numberOfTrailingZeros_0 7 rfl rfl)
theorem dJ4_numberOfTrailingZeros_8 : decode cJ4_numberOfTrailingZeros 8 = .ok (.iload_n 0, 1) := dk_26 (dk_at dksJ4_numberOfTrailingZeros_0 8 rfl rfl)
theorem dJ4_numberOfTrailingZeros_9 : decode cJ4_numberOfTrailingZeros 9 = .ok (.ifCond .gt 8, 3) := dk_157 0 8 (dk_at dksJ4_numberOfTrailingZeros_0 9 rfl rfl)
theorem dJ4_numberOfTrailingZeros_12 : decode cJ4_numberOfTrailingZeros 12 = .ok (.iload_n 0, 1) := dk_26 (dk_at dksJ4_numberOfTrailingZeros_0 12 rfl rfl)
theorem dJ4_numberOfTrailingZeros_13 : decode cJ4_numberOfTrailingZeros 13 = .ok (.bipush 32, 2) := dk_16 32 (dk_at dksJ4_numberOfTrailingZeros_0 13 rfl rfl)
theorem dJ4_numberOfTrailingZeros_15 : decode cJ4_numberOfTrailingZeros 15 = .ok (.iand, 1) := dk_126 (dk_at dksJ4_numberOfTrailingZeros_0 15 rfl rfl)
theorem dJ4_numberOfTrailingZeros_16 : decode cJ4_numberOfTrailingZeros 16 = .ok (.ireturn, 1) := dk_172 (dk_at dksJ4_numberOfTrailingZeros_0 16 rfl rfl)
theorem dJ4_numberOfTrailingZeros_17 : decode cJ4_numberOfTrailingZeros 17 = .ok (.iconst 1, 1) := dk_4 (dk_at dksJ4_numberOfTrailingZeros_0 17 rfl rfl)
theorem dJ4_numberOfTrailingZeros_18 : decode cJ4_numberOfTrailingZeros 18 = .ok (.istore_n 1, 1) := dk_60 (dk_at dksJ4_numberOfTrailingZeros_0 18 rfl rfl)
theorem dJ4_numberOfTrailingZeros_19 : decode cJ4_numberOfTrailingZeros 19 = .ok (.iload_n 0, 1) := dk_26 (dk_at dksJ4_numberOfTrailingZeros_0 19 rfl rfl)
theorem dJ4_numberOfTrailingZeros_20 : decode cJ4_numberOfTrailingZeros 20 = .ok (.ldc_w 264, 3) := dk_19 1 8 (dk_at dksJ4_numberOfTrailingZeros_0 20 rfl rfl)
theorem dJ4_numberOfTrailingZeros_23 : decode cJ4_numberOfTrailingZeros 23 = .ok (.if_icmp .le 11, 3) := dk_164 0 11 (dk_at dksJ4_numberOfTrailingZeros_1 0 rfl rfl)
theorem dJ4_numberOfTrailingZeros_26 : decode cJ4_numberOfTrailingZeros 26 = .ok (.iinc 1 16, 3) := dk_132 1 16 (dk_at dksJ4_numberOfTrailingZeros_1 3 rfl rfl)
theorem dJ4_numberOfTrailingZeros_29 : decode cJ4_numberOfTrailingZeros 29 = .ok (.iload_n 0, 1) := dk_26 (dk_at dksJ4_numberOfTrailingZeros_1 6 rfl rfl)
theorem dJ4_numberOfTrailingZeros_30 : decode cJ4_numberOfTrailingZeros 30 = .ok (.bipush 16, 2) := dk_16 16 (dk_at dksJ4_numberOfTrailingZeros_1 7 rfl rfl)
theorem dJ4_numberOfTrailingZeros_32 : decode cJ4_numberOfTrailingZeros 32 = .ok (.iushr, 1) := dk_124 (dk_at dksJ4_numberOfTrailingZeros_1 9 rfl rfl)
theorem dJ4_numberOfTrailingZeros_33 : decode cJ4_numberOfTrailingZeros 33 = .ok (.istore_n 0, 1) := dk_59 (dk_at dksJ4_numberOfTrailingZeros_1 10 rfl rfl)
theorem dJ4_numberOfTrailingZeros_34 : decode cJ4_numberOfTrailingZeros 34 = .ok (.iload_n 0, 1) := dk_26 (dk_at dksJ4_numberOfTrailingZeros_1 11 rfl rfl)
theorem dJ4_numberOfTrailingZeros_35 : decode cJ4_numberOfTrailingZeros 35 = .ok (.sipush 256, 3) := dk_17 1 0 (dk_at dksJ4_numberOfTrailingZeros_1 12 rfl rfl)
theorem dJ4_numberOfTrailingZeros_38 : decode cJ4_numberOfTrailingZeros 38 = .ok (.if_icmp .le 11, 3) := dk_164 0 11 (dk_at dksJ4_numberOfTrailingZeros_1 15 rfl rfl)
theorem dJ4_numberOfTrailingZeros_41 : decode cJ4_numberOfTrailingZeros 41 = .ok (.iinc 1 8, 3) := dk_132 1 8 (dk_at dksJ4_numberOfTrailingZeros_1 18 rfl rfl)
theorem dJ4_numberOfTrailingZeros_44 : decode cJ4_numberOfTrailingZeros 44 = .ok (.iload_n 0, 1) := dk_26 (dk_at dksJ4_numberOfTrailingZeros_1 21 rfl rfl)
theorem dJ4_numberOfTrailingZeros_45 : decode cJ4_numberOfTrailingZeros 45 = .ok (.bipush 8, 2) := dk_16 8 (dk_at dksJ4_numberOfTrailingZeros_1 22 rfl rfl)
theorem dJ4_numberOfTrailingZeros_47 : decode cJ4_numberOfTrailingZeros 47 = .ok (.iushr, 1) := dk_124 (dk_at dksJ4_numberOfTrailingZeros_2 0 rfl rfl)
theorem dJ4_numberOfTrailingZeros_48 : decode cJ4_numberOfTrailingZeros 48 = .ok (.istore_n 0, 1) := dk_59 (dk_at dksJ4_numberOfTrailingZeros_2 1 rfl rfl)
theorem dJ4_numberOfTrailingZeros_49 : decode cJ4_numberOfTrailingZeros 49 = .ok (.iload_n 0, 1) := dk_26 (dk_at dksJ4_numberOfTrailingZeros_2 2 rfl rfl)
theorem dJ4_numberOfTrailingZeros_50 : decode cJ4_numberOfTrailingZeros 50 = .ok (.bipush 16, 2) := dk_16 16 (dk_at dksJ4_numberOfTrailingZeros_2 3 rfl rfl)
theorem dJ4_numberOfTrailingZeros_52 : decode cJ4_numberOfTrailingZeros 52 = .ok (.if_icmp .le 10, 3) := dk_164 0 10 (dk_at dksJ4_numberOfTrailingZeros_2 5 rfl rfl)
theorem dJ4_numberOfTrailingZeros_55 : decode cJ4_numberOfTrailingZeros 55 = .ok (.iinc 1 4, 3) := dk_132 1 4 (dk_at dksJ4_numberOfTrailingZeros_2 8 rfl rfl)
theorem dJ4_numberOfTrailingZeros_58 : decode cJ4_numberOfTrailingZeros 58 = .ok (.iload_n 0, 1) := dk_26 (dk_at dksJ4_numberOfTrailingZeros_2 11 rfl rfl)
theorem dJ4_numberOfTrailingZeros_59 : decode cJ4_numberOfTrailingZeros 59 = .ok (.iconst 4, 1) := dk_7 (dk_at dksJ4_numberOfTrailingZeros_2 12 rfl rfl)
theorem dJ4_numberOfTrailingZeros_60 : decode cJ4_numberOfTrailingZeros 60 = .ok (.iushr, 1) := dk_124 (dk_at dksJ4_numberOfTrailingZeros_2 13 rfl rfl)
theorem dJ4_numberOfTrailingZeros_61 : decode cJ4_numberOfTrailingZeros 61 = .ok (.istore_n 0, 1) := dk_59 (dk_at dksJ4_numberOfTrailingZeros_2 14 rfl rfl)
theorem dJ4_numberOfTrailingZeros_62 : decode cJ4_numberOfTrailingZeros 62 = .ok (.iload_n 0, 1) := dk_26 (dk_at dksJ4_numberOfTrailingZeros_2 15 rfl rfl)
theorem dJ4_numberOfTrailingZeros_63 : decode cJ4_numberOfTrailingZeros 63 = .ok (.iconst 4, 1) := dk_7 (dk_at dksJ4_numberOfTrailingZeros_2 16 rfl rfl)
theorem dJ4_numberOfTrailingZeros_64 : decode cJ4_numberOfTrailingZeros 64 = .ok (.if_icmp .le 10, 3) := dk_164 0 10 (dk_at dksJ4_numberOfTrailingZeros_2 17 rfl rfl)
theorem dJ4_numberOfTrailingZeros_67 : decode cJ4_numberOfTrailingZeros 67 = .ok (.iinc 1 2, 3) := dk_132 1 2 (dk_at dksJ4_numberOfTrailingZeros_2 20 rfl rfl)
theorem dJ4_numberOfTrailingZeros_70 : decode cJ4_numberOfTrailingZeros 70 = .ok (.iload_n 0, 1) := dk_26 (dk_at dksJ4_numberOfTrailingZeros_2 23 rfl rfl)
theorem dJ4_numberOfTrailingZeros_71 : decode cJ4_numberOfTrailingZeros 71 = .ok (.iconst 2, 1) := dk_5 (dk_at dksJ4_numberOfTrailingZeros_3 0 rfl rfl)
theorem dJ4_numberOfTrailingZeros_72 : decode cJ4_numberOfTrailingZeros 72 = .ok (.iushr, 1) := dk_124 (dk_at dksJ4_numberOfTrailingZeros_3 1 rfl rfl)
theorem dJ4_numberOfTrailingZeros_73 : decode cJ4_numberOfTrailingZeros 73 = .ok (.istore_n 0, 1) := dk_59 (dk_at dksJ4_numberOfTrailingZeros_3 2 rfl rfl)
theorem dJ4_numberOfTrailingZeros_74 : decode cJ4_numberOfTrailingZeros 74 = .ok (.iload_n 1, 1) := dk_27 (dk_at dksJ4_numberOfTrailingZeros_3 3 rfl rfl)
theorem dJ4_numberOfTrailingZeros_75 : decode cJ4_numberOfTrailingZeros 75 = .ok (.iload_n 0, 1) := dk_26 (dk_at dksJ4_numberOfTrailingZeros_3 4 rfl rfl)
theorem dJ4_numberOfTrailingZeros_76 : decode cJ4_numberOfTrailingZeros 76 = .ok (.iconst 1, 1) := dk_4 (dk_at dksJ4_numberOfTrailingZeros_3 5 rfl rfl)
theorem dJ4_numberOfTrailingZeros_77 : decode cJ4_numberOfTrailingZeros 77 = .ok (.iushr, 1) := dk_124 (dk_at dksJ4_numberOfTrailingZeros_3 6 rfl rfl)
theorem dJ4_numberOfTrailingZeros_78 : decode cJ4_numberOfTrailingZeros 78 = .ok (.iadd, 1) := dk_96 (dk_at dksJ4_numberOfTrailingZeros_3 7 rfl rfl)
theorem dJ4_numberOfTrailingZeros_79 : decode cJ4_numberOfTrailingZeros 79 = .ok (.ireturn, 1) := dk_172 (dk_at dksJ4_numberOfTrailingZeros_3 8 rfl rfl)
abbrev cJ4_bitCount : ByteArray := prog_19_method_49_code
def yJ4_bitCount : MethodName := ⟨RJ4, "bitCount", "(I)I"⟩
def dkwJ4_bitCount_2 : List UInt8 := [26, 16, 63, 126, 172]
abbrev dktJ4_bitCount_2 : List UInt8 := dkwJ4_bitCount_2 ++ []
def dkwJ4_bitCount_1 : List UInt8 := [26, 26, 7, 124, 96, 19, 1, 11, 126, 59, 26, 26, 16, 8, 124, 96, 59, 26, 26, 16, 16, 124, 96, 59]
abbrev dktJ4_bitCount_1 : List UInt8 := dkwJ4_bitCount_1 ++ dktJ4_bitCount_2
def dkwJ4_bitCount_0 : List UInt8 := [26, 26, 4, 124, 19, 1, 9, 126, 100, 59, 26, 19, 1, 10, 126, 26, 5, 124, 19, 1, 10, 126, 96, 59]
abbrev dktJ4_bitCount_0 : List UInt8 := dkwJ4_bitCount_0 ++ dktJ4_bitCount_1
theorem dksJ4_bitCount_0 : cJ4_bitCount.data.toList.drop 0 = dktJ4_bitCount_0 := by decide +kernel
theorem dksJ4_bitCount_1 : cJ4_bitCount.data.toList.drop 24 = dktJ4_bitCount_1 := dk_seg dksJ4_bitCount_0 24 rfl rfl
theorem dksJ4_bitCount_2 : cJ4_bitCount.data.toList.drop 48 = dktJ4_bitCount_2 := dk_seg dksJ4_bitCount_1 24 rfl rfl
theorem dJ4_bitCount_0 : decode cJ4_bitCount 0 = .ok (.iload_n 0, 1) := dk_26 (dk_at dksJ4_bitCount_0 0 rfl rfl)
theorem dJ4_bitCount_1 : decode cJ4_bitCount 1 = .ok (.iload_n 0, 1) := dk_26 (dk_at dksJ4_bitCount_0 1 rfl rfl)
theorem dJ4_bitCount_2 : decode cJ4_bitCount 2 = .ok (.iconst 1, 1) := dk_4 (dk_at dksJ4_bitCount_0 2 rfl rfl)
theorem dJ4_bitCount_3 : decode cJ4_bitCount 3 = .ok (.iushr, 1) := dk_124 (dk_at dksJ4_bitCount_0 3 rfl rfl)
theorem dJ4_bitCount_4 : decode cJ4_bitCount 4 = .ok (.ldc_w 265, 3) := dk_19 1 9 (dk_at dksJ4_bitCount_0 4 rfl rfl)
theorem dJ4_bitCount_7 : decode cJ4_bitCount 7 = .ok (.iand, 1) := dk_126 (dk_at dksJ4_bitCount_0 7 rfl rfl)
theorem dJ4_bitCount_8 : decode cJ4_bitCount 8 = .ok (.isub, 1) := dk_100 (dk_at dksJ4_bitCount_0 8 rfl rfl)
theorem dJ4_bitCount_9 : decode cJ4_bitCount 9 = .ok (.istore_n 0, 1) := dk_59 (dk_at dksJ4_bitCount_0 9 rfl rfl)
theorem dJ4_bitCount_10 : decode cJ4_bitCount 10 = .ok (.iload_n 0, 1) := dk_26 (dk_at dksJ4_bitCount_0 10 rfl rfl)
theorem dJ4_bitCount_11 : decode cJ4_bitCount 11 = .ok (.ldc_w 266, 3) := dk_19 1 10 (dk_at dksJ4_bitCount_0 11 rfl rfl)
theorem dJ4_bitCount_14 : decode cJ4_bitCount 14 = .ok (.iand, 1) := dk_126 (dk_at dksJ4_bitCount_0 14 rfl rfl)
theorem dJ4_bitCount_15 : decode cJ4_bitCount 15 = .ok (.iload_n 0, 1) := dk_26 (dk_at dksJ4_bitCount_0 15 rfl rfl)
theorem dJ4_bitCount_16 : decode cJ4_bitCount 16 = .ok (.iconst 2, 1) := dk_5 (dk_at dksJ4_bitCount_0 16 rfl rfl)
theorem dJ4_bitCount_17 : decode cJ4_bitCount 17 = .ok (.iushr, 1) := dk_124 (dk_at dksJ4_bitCount_0 17 rfl rfl)
theorem dJ4_bitCount_18 : decode cJ4_bitCount 18 = .ok (.ldc_w 266, 3) := dk_19 1 10 (dk_at dksJ4_bitCount_0 18 rfl rfl)
theorem dJ4_bitCount_21 : decode cJ4_bitCount 21 = .ok (.iand, 1) := dk_126 (dk_at dksJ4_bitCount_0 21 rfl rfl)
theorem dJ4_bitCount_22 : decode cJ4_bitCount 22 = .ok (.iadd, 1) := dk_96 (dk_at dksJ4_bitCount_0 22 rfl rfl)
theorem dJ4_bitCount_23 : decode cJ4_bitCount 23 = .ok (.istore_n 0, 1) := dk_59 (dk_at dksJ4_bitCount_0 23 rfl rfl)
theorem dJ4_bitCount_24 : decode cJ4_bitCount 24 = .ok (.iload_n 0, 1) := dk_26 (dk_at dksJ4_bitCount_1 0 rfl rfl)
theorem dJ4_bitCount_25 : decode cJ4_bitCount 25 = .ok (.iload_n 0, 1) := dk_26 (dk_at dksJ4_bitCount_1 1 rfl rfl)
theorem dJ4_bitCount_26 : decode cJ4_bitCount 26 = .ok (.iconst 4, 1) := dk_7 (dk_at dksJ4_bitCount_1 2 rfl rfl)
theorem dJ4_bitCount_27 : decode cJ4_bitCount 27 = .ok (.iushr, 1) := dk_124 (dk_at dksJ4_bitCount_1 3 rfl rfl)
theorem dJ4_bitCount_28 : decode cJ4_bitCount 28 = .ok (.iadd, 1) := dk_96 (dk_at dksJ4_bitCount_1 4 rfl rfl)
theorem dJ4_bitCount_29 : decode cJ4_bitCount 29 = .ok (.ldc_w 267, 3) := dk_19 1 11 (dk_at dksJ4_bitCount_1 5 rfl rfl)
theorem dJ4_bitCount_32 : decode cJ4_bitCount 32 = .ok (.iand, 1) := dk_126 (dk_at dksJ4_bitCount_1 8 rfl rfl)
theorem dJ4_bitCount_33 : decode cJ4_bitCount 33 = .ok (.istore_n 0, 1) := dk_59 (dk_at dksJ4_bitCount_1 9 rfl rfl)
theorem dJ4_bitCount_34 : decode cJ4_bitCount 34 = .ok (.iload_n 0, 1) := dk_26 (dk_at dksJ4_bitCount_1 10 rfl rfl)
theorem dJ4_bitCount_35 : decode cJ4_bitCount 35 = .ok (.iload_n 0, 1) := dk_26 (dk_at dksJ4_bitCount_1 11 rfl rfl)
theorem dJ4_bitCount_36 : decode cJ4_bitCount 36 = .ok (.bipush 8, 2) := dk_16 8 (dk_at dksJ4_bitCount_1 12 rfl rfl)
theorem dJ4_bitCount_38 : decode cJ4_bitCount 38 = .ok (.iushr, 1) := dk_124 (dk_at dksJ4_bitCount_1 14 rfl rfl)
theorem dJ4_bitCount_39 : decode cJ4_bitCount 39 = .ok (.iadd, 1) := dk_96 (dk_at dksJ4_bitCount_1 15 rfl rfl)
theorem dJ4_bitCount_40 : decode cJ4_bitCount 40 = .ok (.istore_n 0, 1) := dk_59 (dk_at dksJ4_bitCount_1 16 rfl rfl)
theorem dJ4_bitCount_41 : decode cJ4_bitCount 41 = .ok (.iload_n 0, 1) := dk_26 (dk_at dksJ4_bitCount_1 17 rfl rfl)
theorem dJ4_bitCount_42 : decode cJ4_bitCount 42 = .ok (.iload_n 0, 1) := dk_26 (dk_at dksJ4_bitCount_1 18 rfl rfl)
theorem dJ4_bitCount_43 : decode cJ4_bitCount 43 = .ok (.bipush 16, 2) := dk_16 16 (dk_at dksJ4_bitCount_1 19 rfl rfl)
theorem dJ4_bitCount_45 : decode cJ4_bitCount 45 = .ok (.iushr, 1) := dk_124 (dk_at dksJ4_bitCount_1 21 rfl rfl)
theorem dJ4_bitCount_46 : decode cJ4_bitCount 46 = .ok (.iadd, 1) := dk_96 (dk_at dksJ4_bitCount_1 22 rfl rfl)
theorem dJ4_bitCount_47 : decode cJ4_bitCount 47 = .ok (.istore_n 0, 1) := dk_59 (dk_at dksJ4_bitCount_1 23 rfl rfl)
theorem dJ4_bitCount_48 : decode cJ4_bitCount 48 = .ok (.iload_n 0, 1) := dk_26 (dk_at dksJ4_bitCount_2 0 rfl rfl)
theorem dJ4_bitCount_49 : decode cJ4_bitCount 49 = .ok (.bipush 63, 2) := dk_16 63 (dk_at dksJ4_bitCount_2 1 rfl rfl)
theorem dJ4_bitCount_51 : decode cJ4_bitCount 51 = .ok (.iand, 1) := dk_126 (dk_at dksJ4_bitCount_2 3 rfl rfl)
theorem dJ4_bitCount_52 : decode cJ4_bitCount 52 = .ok (.ireturn, 1) := dk_172 (dk_at dksJ4_bitCount_2 4 rfl rfl)
abbrev cJ4_stringSize : ByteArray := prog_19_method_13_code
def yJ4_stringSize : MethodName := ⟨RJ4, "stringSize", "(I)I"⟩
def dkwJ4_stringSize_1 : List UInt8 := [164, 0, 7, 29, 27, 96, 172, 16, 10, 28, 104, 61, 132, 3, 1, 167, 255, 233, 16, 10, 27, 96, 172]
abbrev dktJ4_stringSize_1 : List UInt8 := dkwJ4_stringSize_1 ++ []
def dkwJ4_stringSize_0 : List UInt8 := [4, 60, 26, 155, 0, 8, 3, 60, 26, 116, 59, 16, 246, 61, 4, 62, 29, 16, 10, 162, 0, 23, 26, 28]
abbrev dktJ4_stringSize_0 : List UInt8 := dkwJ4_stringSize_0 ++ dktJ4_stringSize_1
theorem dksJ4_stringSize_0 : cJ4_stringSize.data.toList.drop 0 = dktJ4_stringSize_0 := by decide +kernel
theorem dksJ4_stringSize_1 : cJ4_stringSize.data.toList.drop 24 = dktJ4_stringSize_1 := dk_seg dksJ4_stringSize_0 24 rfl rfl
theorem dJ4_stringSize_0 : decode cJ4_stringSize 0 = .ok (.iconst 1, 1) := dk_4 (dk_at dksJ4_stringSize_0 0 rfl rfl)
theorem dJ4_stringSize_1 : decode cJ4_stringSize 1 = .ok (.istore_n 1, 1) := dk_60 (dk_at dksJ4_stringSize_0 1 rfl rfl)
theorem dJ4_stringSize_2 : decode cJ4_stringSize 2 = .ok (.iload_n 0, 1) := dk_26 (dk_at dksJ4_stringSize_0 2 rfl rfl)
theorem dJ4_stringSize_3 : decode cJ4_stringSize 3 = .ok (.ifCond .lt 8, 3) := dk_155 0 8 (dk_at dksJ4_stringSize_0 3 rfl rfl)
theorem dJ4_stringSize_6 : decode cJ4_stringSize 6 = .ok (.iconst 0, 1) := dk_3 (dk_at dksJ4_stringSize_0 6 rfl rfl)
theorem dJ4_stringSize_7 : decode cJ4_stringSize 7 = .ok (.istore_n 1, 1) := dk_60 (dk_at dksJ4_stringSize_0 7 rfl rfl)
theorem dJ4_stringSize_8 : decode cJ4_stringSize 8 = .ok (.iload_n 0, 1) := dk_26 (dk_at dksJ4_stringSize_0 8 rfl rfl)
theorem dJ4_stringSize_9 : decode cJ4_stringSize 9 = .ok (.ineg, 1) := dk_116 (dk_at dksJ4_stringSize_0 9 rfl rfl)
theorem dJ4_stringSize_10 : decode cJ4_stringSize 10 = .ok (.istore_n 0, 1) := dk_59 (dk_at dksJ4_stringSize_0 10 rfl rfl)
theorem dJ4_stringSize_11 : decode cJ4_stringSize 11 = .ok (.bipush (-10), 2) := dk_16 246 (dk_at dksJ4_stringSize_0 11 rfl rfl)
theorem dJ4_stringSize_13 : decode cJ4_stringSize 13 = .ok (.istore_n 2, 1) := dk_61 (dk_at dksJ4_stringSize_0 13 rfl rfl)
theorem dJ4_stringSize_14 : decode cJ4_stringSize 14 = .ok (.iconst 1, 1) := dk_4 (dk_at dksJ4_stringSize_0 14 rfl rfl)
theorem dJ4_stringSize_15 : decode cJ4_stringSize 15 = .ok (.istore_n 3, 1) := dk_62 (dk_at dksJ4_stringSize_0 15 rfl rfl)
theorem dJ4_stringSize_16 : decode cJ4_stringSize 16 = .ok (.iload_n 3, 1) := dk_29 (dk_at dksJ4_stringSize_0 16 rfl rfl)
theorem dJ4_stringSize_17 : decode cJ4_stringSize 17 = .ok (.bipush 10, 2) := dk_16 10 (dk_at dksJ4_stringSize_0 17 rfl rfl)
theorem dJ4_stringSize_19 : decode cJ4_stringSize 19 = .ok (.if_icmp .ge 23, 3) := dk_162 0 23 (dk_at dksJ4_stringSize_0 19 rfl rfl)
theorem dJ4_stringSize_22 : decode cJ4_stringSize 22 = .ok (.iload_n 0, 1) := dk_26 (dk_at dksJ4_stringSize_0 22 rfl rfl)
theorem dJ4_stringSize_23 : decode cJ4_stringSize 23 = .ok (.iload_n 2, 1) := dk_28 (dk_at dksJ4_stringSize_0 23 rfl rfl)
theorem dJ4_stringSize_24 : decode cJ4_stringSize 24 = .ok (.if_icmp .le 7, 3) := dk_164 0 7 (dk_at dksJ4_stringSize_1 0 rfl rfl)
theorem dJ4_stringSize_27 : decode cJ4_stringSize 27 = .ok (.iload_n 3, 1) := dk_29 (dk_at dksJ4_stringSize_1 3 rfl rfl)
theorem dJ4_stringSize_28 : decode cJ4_stringSize 28 = .ok (.iload_n 1, 1) := dk_27 (dk_at dksJ4_stringSize_1 4 rfl rfl)
theorem dJ4_stringSize_29 : decode cJ4_stringSize 29 = .ok (.iadd, 1) := dk_96 (dk_at dksJ4_stringSize_1 5 rfl rfl)
theorem dJ4_stringSize_30 : decode cJ4_stringSize 30 = .ok (.ireturn, 1) := dk_172 (dk_at dksJ4_stringSize_1 6 rfl rfl)
theorem dJ4_stringSize_31 : decode cJ4_stringSize 31 = .ok (.bipush 10, 2) := dk_16 10 (dk_at dksJ4_stringSize_1 7 rfl rfl)
theorem dJ4_stringSize_33 : decode cJ4_stringSize 33 = .ok (.iload_n 2, 1) := dk_28 (dk_at dksJ4_stringSize_1 9 rfl rfl)
theorem dJ4_stringSize_34 : decode cJ4_stringSize 34 = .ok (.imul, 1) := dk_104 (dk_at dksJ4_stringSize_1 10 rfl rfl)
theorem dJ4_stringSize_35 : decode cJ4_stringSize 35 = .ok (.istore_n 2, 1) := dk_61 (dk_at dksJ4_stringSize_1 11 rfl rfl)
theorem dJ4_stringSize_36 : decode cJ4_stringSize 36 = .ok (.iinc 3 1, 3) := dk_132 3 1 (dk_at dksJ4_stringSize_1 12 rfl rfl)
theorem dJ4_stringSize_39 : decode cJ4_stringSize 39 = .ok (.goto (-23), 3) := dk_167 255 233 (dk_at dksJ4_stringSize_1 15 rfl rfl)
theorem dJ4_stringSize_42 : decode cJ4_stringSize 42 = .ok (.bipush 10, 2) := dk_16 10 (dk_at dksJ4_stringSize_1 18 rfl rfl)
theorem dJ4_stringSize_44 : decode cJ4_stringSize 44 = .ok (.iload_n 1, 1) := dk_27 (dk_at dksJ4_stringSize_1 20 rfl rfl)
theorem dJ4_stringSize_45 : decode cJ4_stringSize 45 = .ok (.iadd, 1) := dk_96 (dk_at dksJ4_stringSize_1 21 rfl rfl)
theorem dJ4_stringSize_46 : decode cJ4_stringSize 46 = .ok (.ireturn, 1) := dk_172 (dk_at dksJ4_stringSize_1 22 rfl rfl)
abbrev cJ4_getChars : ByteArray := prog_19_method_12_code
def yJ4_getChars : MethodName := ⟨RJ4, "getChars", "(II[B)I"⟩
def dkwJ4_getChars_5 : List UInt8 := [16, 45, 84, 21, 5, 172]
abbrev dktJ4_getChars_5 : List UInt8 := dkwJ4_getChars_5 ++ []
def dkwJ4_getChars_4 : List UInt8 := [132, 5, 255, 21, 5, 178, 0, 87, 26, 116, 51, 84, 21, 6, 153, 0, 12, 44, 132, 5, 255, 21, 5]
abbrev dktJ4_getChars_4 : List UInt8 := dkwJ4_getChars_4 ++ dktJ4_getChars_5
def dkwJ4_getChars_3 : List UInt8 := [167, 255, 209, 44, 132, 5, 255, 21, 5, 178, 0, 83, 26, 116, 51, 84, 26, 16, 247, 162, 0, 16, 44]
abbrev dktJ4_getChars_3 : List UInt8 := dkwJ4_getChars_3 ++ dktJ4_getChars_4
def dkwJ4_getChars_2 : List UInt8 := [21, 5, 178, 0, 83, 21, 4, 51, 84, 44, 132, 5, 255, 21, 5, 178, 0, 87, 21, 4, 51, 84]
abbrev dktJ4_getChars_2 : List UInt8 := dkwJ4_getChars_2 ++ dktJ4_getChars_3
def dkwJ4_getChars_1 : List UInt8 := [16, 156, 163, 0, 47, 26, 16, 100, 108, 62, 29, 16, 100, 104, 26, 100, 54, 4, 29, 59, 44, 132, 5, 255]
abbrev dktJ4_getChars_1 : List UInt8 := dkwJ4_getChars_1 ++ dktJ4_getChars_2
def dkwJ4_getChars_0 : List UInt8 := [27, 54, 5, 26, 156, 0, 7, 4, 167, 0, 4, 3, 54, 6, 21, 6, 154, 0, 6, 26, 116, 59, 26]
abbrev dktJ4_getChars_0 : List UInt8 := dkwJ4_getChars_0 ++ dktJ4_getChars_1
theorem dksJ4_getChars_0 : cJ4_getChars.data.toList.drop 0 = dktJ4_getChars_0 := by decide +kernel
theorem dksJ4_getChars_1 : cJ4_getChars.data.toList.drop 23 = dktJ4_getChars_1 := dk_seg dksJ4_getChars_0 23 rfl rfl
theorem dksJ4_getChars_2 : cJ4_getChars.data.toList.drop 47 = dktJ4_getChars_2 := dk_seg dksJ4_getChars_1 24 rfl rfl
theorem dksJ4_getChars_3 : cJ4_getChars.data.toList.drop 69 = dktJ4_getChars_3 := dk_seg dksJ4_getChars_2 22 rfl rfl
theorem dksJ4_getChars_4 : cJ4_getChars.data.toList.drop 92 = dktJ4_getChars_4 := dk_seg dksJ4_getChars_3 23 rfl rfl
theorem dksJ4_getChars_5 : cJ4_getChars.data.toList.drop 115 = dktJ4_getChars_5 := dk_seg dksJ4_getChars_4 23 rfl rfl
theorem dJ4_getChars_0 : decode cJ4_getChars 0 = .ok (.iload_n 1, 1) := dk_27 (dk_at dksJ4_getChars_0 0 rfl rfl)
theorem dJ4_getChars_1 : decode cJ4_getChars 1 = .ok (.istore 5, 2) := dk_54 5 (dk_at dksJ4_getChars_0 1 rfl rfl)
theorem dJ4_getChars_3 : decode cJ4_getChars 3 = .ok (.iload_n 0, 1) := dk_26 (dk_at dksJ4_getChars_0 3 rfl rfl)
theorem dJ4_getChars_4 : decode cJ4_getChars 4 = .ok (.ifCond .ge 7, 3) := dk_156 0 7 (dk_at dksJ4_getChars_0 4 rfl rfl)
theorem dJ4_getChars_7 : decode cJ4_getChars 7 = .ok (.iconst 1, 1) := dk_4 (dk_at dksJ4_getChars_0 7 rfl rfl)
theorem dJ4_getChars_8 : decode cJ4_getChars 8 = .ok (.goto 4, 3) := dk_167 0 4 (dk_at dksJ4_getChars_0 8 rfl rfl)
theorem dJ4_getChars_11 : decode cJ4_getChars 11 = .ok (.iconst 0, 1) := dk_3 (dk_at dksJ4_getChars_0 11 rfl rfl)
theorem dJ4_getChars_12 : decode cJ4_getChars 12 = .ok (.istore 6, 2) := dk_54 6 (dk_at dksJ4_getChars_0 12 rfl rfl)
theorem dJ4_getChars_14 : decode cJ4_getChars 14 = .ok (.iload 6, 2) := dk_21 6 (dk_at dksJ4_getChars_0 14 rfl rfl)
theorem dJ4_getChars_16 : decode cJ4_getChars 16 = .ok (.ifCond .ne 6, 3) := dk_154 0 6 (dk_at dksJ4_getChars_0 16 rfl rfl)
theorem dJ4_getChars_19 : decode cJ4_getChars 19 = .ok (.iload_n 0, 1) := dk_26 (dk_at dksJ4_getChars_0 19 rfl rfl)
theorem dJ4_getChars_20 : decode cJ4_getChars 20 = .ok (.ineg, 1) := dk_116 (dk_at dksJ4_getChars_0 20 rfl rfl)
theorem dJ4_getChars_21 : decode cJ4_getChars 21 = .ok (.istore_n 0, 1) := dk_59 (dk_at dksJ4_getChars_0 21 rfl rfl)
theorem dJ4_getChars_22 : decode cJ4_getChars 22 = .ok (.iload_n 0, 1) := dk_26 (dk_at dksJ4_getChars_0 22 rfl rfl)
theorem dJ4_getChars_23 : decode cJ4_getChars 23 = .ok (.bipush (-100), 2) := dk_16 156 (dk_at dksJ4_getChars_1 0 rfl rfl)
theorem dJ4_getChars_25 : decode cJ4_getChars 25 = .ok (.if_icmp .gt 47, 3) := dk_163 0 47 (dk_at dksJ4_getChars_1 2 rfl rfl)
theorem dJ4_getChars_28 : decode cJ4_getChars 28 = .ok (.iload_n 0, 1) := dk_26 (dk_at dksJ4_getChars_1 5 rfl rfl)
theorem dJ4_getChars_29 : decode cJ4_getChars 29 = .ok (.bipush 100, 2) := dk_16 100 (dk_at dksJ4_getChars_1 6 rfl rfl)
theorem dJ4_getChars_31 : decode cJ4_getChars 31 = .ok (.idiv, 1) := dk_108 (dk_at dksJ4_getChars_1 8 rfl rfl)
theorem dJ4_getChars_32 : decode cJ4_getChars 32 = .ok (.istore_n 3, 1) := dk_62 (dk_at dksJ4_getChars_1 9 rfl rfl)
theorem dJ4_getChars_33 : decode cJ4_getChars 33 = .ok (.iload_n 3, 1) := dk_29 (dk_at dksJ4_getChars_1 10 rfl rfl)
theorem dJ4_getChars_34 : decode cJ4_getChars 34 = .ok (.bipush 100, 2) := dk_16 100 (dk_at dksJ4_getChars_1 11 rfl rfl)
theorem dJ4_getChars_36 : decode cJ4_getChars 36 = .ok (.imul, 1) := dk_104 (dk_at dksJ4_getChars_1 13 rfl rfl)
theorem dJ4_getChars_37 : decode cJ4_getChars 37 = .ok (.iload_n 0, 1) := dk_26 (dk_at dksJ4_getChars_1 14 rfl rfl)
theorem dJ4_getChars_38 : decode cJ4_getChars 38 = .ok (.isub, 1) := dk_100 (dk_at dksJ4_getChars_1 15 rfl rfl)
theorem dJ4_getChars_39 : decode cJ4_getChars 39 = .ok (.istore 4, 2) := dk_54 4 (dk_at dksJ4_getChars_1 16 rfl rfl)
theorem dJ4_getChars_41 : decode cJ4_getChars 41 = .ok (.iload_n 3, 1) := dk_29 (dk_at dksJ4_getChars_1 18 rfl rfl)
theorem dJ4_getChars_42 : decode cJ4_getChars 42 = .ok (.istore_n 0, 1) := dk_59 (dk_at dksJ4_getChars_1 19 rfl rfl)
theorem dJ4_getChars_43 : decode cJ4_getChars 43 = .ok (.aload_n 2, 1) := dk_44 (dk_at dksJ4_getChars_1 20 rfl rfl)
theorem dJ4_getChars_44 : decode cJ4_getChars 44 = .ok (.iinc 5 (-1), 3) := dk_132 5 255 (dk_at dksJ4_getChars_1 21 rfl rfl)
theorem dJ4_getChars_47 : decode cJ4_getChars 47 = .ok (.iload 5, 2) := dk_21 5 (dk_at dksJ4_getChars_2 0 rfl rfl)
theorem dJ4_getChars_49 : decode cJ4_getChars 49 = .ok (.getstatic 83, 3) := dk_178 0 83 (dk_at dksJ4_getChars_2 2 rfl rfl)
theorem dJ4_getChars_52 : decode cJ4_getChars 52 = .ok (.iload 4, 2) := dk_21 4 (dk_at dksJ4_getChars_2 5 rfl rfl)
theorem dJ4_getChars_54 : decode cJ4_getChars 54 = .ok (.baload, 1) := dk_51 (dk_at dksJ4_getChars_2 7 rfl rfl)
theorem dJ4_getChars_55 : decode cJ4_getChars 55 = .ok (.bastore, 1) := dk_84 (dk_at dksJ4_getChars_2 8 rfl rfl)
theorem dJ4_getChars_56 : decode cJ4_getChars 56 = .ok (.aload_n 2, 1) := dk_44 (dk_at dksJ4_getChars_2 9 rfl rfl)
theorem dJ4_getChars_57 : decode cJ4_getChars 57 = .ok (.iinc 5 (-1), 3) := dk_132 5 255 (dk_at dksJ4_getChars_2 10 rfl rfl)
theorem dJ4_getChars_60 : decode cJ4_getChars 60 = .ok (.iload 5, 2) := dk_21 5 (dk_at dksJ4_getChars_2 13 rfl rfl)
theorem dJ4_getChars_62 : decode cJ4_getChars 62 = .ok (.getstatic 87, 3) := dk_178 0 87 (dk_at dksJ4_getChars_2 15 rfl rfl)
theorem dJ4_getChars_65 : decode cJ4_getChars 65 = .ok (.iload 4, 2) := dk_21 4 (dk_at dksJ4_getChars_2 18 rfl rfl)
theorem dJ4_getChars_67 : decode cJ4_getChars 67 = .ok (.baload, 1) := dk_51 (dk_at dksJ4_getChars_2 20 rfl rfl)
theorem dJ4_getChars_68 : decode cJ4_getChars 68 = .ok (.bastore, 1) := dk_84 (dk_at dksJ4_getChars_2 21 rfl rfl)
theorem dJ4_getChars_69 : decode cJ4_getChars 69 = .ok (.goto (-47), 3) := dk_167 255 209 (dk_at dksJ4_getChars_3 0 rfl rfl)
theorem dJ4_getChars_72 : decode cJ4_getChars 72 = .ok (.aload_n 2, 1) := dk_44 (dk_at dksJ4_getChars_3 3 rfl rfl)
theorem dJ4_getChars_73 : decode cJ4_getChars 73 = .ok (.iinc 5 (-1), 3) := dk_132 5 255 (dk_at dksJ4_getChars_3 4 rfl rfl)
theorem dJ4_getChars_76 : decode cJ4_getChars 76 = .ok (.iload 5, 2) := dk_21 5 (dk_at dksJ4_getChars_3 7 rfl rfl)
theorem dJ4_getChars_78 : decode cJ4_getChars 78 = .ok (.getstatic 83, 3) := dk_178 0 83 (dk_at dksJ4_getChars_3 9 rfl rfl)
theorem dJ4_getChars_81 : decode cJ4_getChars 81 = .ok (.iload_n 0, 1) := dk_26 (dk_at dksJ4_getChars_3 12 rfl rfl)
theorem dJ4_getChars_82 : decode cJ4_getChars 82 = .ok (.ineg, 1) := dk_116 (dk_at dksJ4_getChars_3 13 rfl rfl)
theorem dJ4_getChars_83 : decode cJ4_getChars 83 = .ok (.baload, 1) := dk_51 (dk_at dksJ4_getChars_3 14 rfl rfl)
theorem dJ4_getChars_84 : decode cJ4_getChars 84 = .ok (.bastore, 1) := dk_84 (dk_at dksJ4_getChars_3 15 rfl rfl)
theorem dJ4_getChars_85 : decode cJ4_getChars 85 = .ok (.iload_n 0, 1) := dk_26 (dk_at dksJ4_getChars_3 16 rfl rfl)
theorem dJ4_getChars_86 : decode cJ4_getChars 86 = .ok (.bipush (-9), 2) := dk_16 247 (dk_at dksJ4_getChars_3 17 rfl rfl)
theorem dJ4_getChars_88 : decode cJ4_getChars 88 = .ok (.if_icmp .ge 16, 3) := dk_162 0 16 (dk_at dksJ4_getChars_3 19 rfl rfl)
theorem dJ4_getChars_91 : decode cJ4_getChars 91 = .ok (.aload_n 2, 1) := dk_44 (dk_at dksJ4_getChars_3 22 rfl rfl)
theorem dJ4_getChars_92 : decode cJ4_getChars 92 = .ok (.iinc 5 (-1), 3) := dk_132 5 255 (dk_at dksJ4_getChars_4 0 rfl rfl)
theorem dJ4_getChars_95 : decode cJ4_getChars 95 = .ok (.iload 5, 2) := dk_21 5 (dk_at dksJ4_getChars_4 3 rfl rfl)
theorem dJ4_getChars_97 : decode cJ4_getChars 97 = .ok (.getstatic 87, 3) := dk_178 0 87 (dk_at dksJ4_getChars_4 5 rfl rfl)
theorem dJ4_getChars_100 : decode cJ4_getChars 100 = .ok (.iload_n 0, 1) := dk_26 (dk_at dksJ4_getChars_4 8 rfl rfl)
theorem dJ4_getChars_101 : decode cJ4_getChars 101 = .ok (.ineg, 1) := dk_116 (dk_at dksJ4_getChars_4 9 rfl rfl)
theorem dJ4_getChars_102 : decode cJ4_getChars 102 = .ok (.baload, 1) := dk_51 (dk_at dksJ4_getChars_4 10 rfl rfl)
theorem dJ4_getChars_103 : decode cJ4_getChars 103 = .ok (.bastore, 1) := dk_84 (dk_at dksJ4_getChars_4 11 rfl rfl)
theorem dJ4_getChars_104 : decode cJ4_getChars 104 = .ok (.iload 6, 2) := dk_21 6 (dk_at dksJ4_getChars_4 12 rfl rfl)
theorem dJ4_getChars_106 : decode cJ4_getChars 106 = .ok (.ifCond .eq 12, 3) := dk_153 0 12 (dk_at dksJ4_getChars_4 14 rfl rfl)
theorem dJ4_getChars_109 : decode cJ4_getChars 109 = .ok (.aload_n 2, 1) := dk_44 (dk_at dksJ4_getChars_4 17 rfl rfl)
theorem dJ4_getChars_110 : decode cJ4_getChars 110 = .ok (.iinc 5 (-1), 3) := dk_132 5 255 (dk_at dksJ4_getChars_4 18 rfl rfl)
theorem dJ4_getChars_113 : decode cJ4_getChars 113 = .ok (.iload 5, 2) := dk_21 5 (dk_at dksJ4_getChars_4 21 rfl rfl)
theorem dJ4_getChars_115 : decode cJ4_getChars 115 = .ok (.bipush 45, 2) := dk_16 45 (dk_at dksJ4_getChars_5 0 rfl rfl)
theorem dJ4_getChars_117 : decode cJ4_getChars 117 = .ok (.bastore, 1) := dk_84 (dk_at dksJ4_getChars_5 2 rfl rfl)
theorem dJ4_getChars_118 : decode cJ4_getChars 118 = .ok (.iload 5, 2) := dk_21 5 (dk_at dksJ4_getChars_5 3 rfl rfl)
theorem dJ4_getChars_120 : decode cJ4_getChars 120 = .ok (.ireturn, 1) := dk_172 (dk_at dksJ4_getChars_5 5 rfl rfl)
theorem q61 : (Jvm.Cond.initialized "java/lang/Integer") ∈ lw_all := lw_g (lw_at lw_m1 6 rfl) rfl
theorem q134 : (Jvm.Cond.static ({ cls := "java/lang/Integer", name := "valueOf", desc := "(I)Ljava/lang/Integer;" } : Jvm.MethodName)) ∈ lw_all := lw_g (lw_at lw_m1 79 rfl) rfl
theorem q135 : (Jvm.Cond.code ({ cls := "java/lang/Integer", name := "valueOf", desc := "(I)Ljava/lang/Integer;" } : Jvm.MethodName) prog_19_method_22_code (1 : Nat) (Option.some (Jvm.ClassFile.FieldType.object "java/lang/Integer"))) ∈ lw_all := lw_g (lw_at lw_m1 80 rfl) rfl
theorem q136 : (Jvm.Cond.fieldLink "java/lang/Integer" (191 : Nat) "java/lang/Integer$IntegerCache" "high" "I") ∈ lw_all := lw_g (lw_at lw_m1 81 rfl) rfl
theorem q138 : (Jvm.Cond.fieldLink "java/lang/Integer" (195 : Nat) "java/lang/Integer$IntegerCache" "cache" "[Ljava/lang/Integer;") ∈ lw_all := lw_g (lw_at lw_m1 83 rfl) rfl
theorem q140 : (Jvm.Cond.classLink "java/lang/Integer" (1 : Nat) "java/lang/Integer") ∈ lw_all := lw_g (lw_at lw_m1 85 rfl) rfl
theorem q141 : (Jvm.Cond.instantiable "java/lang/Integer" (1 : Nat)) ∈ lw_all := lw_g (lw_at lw_m1 86 rfl) rfl
theorem q142 : (Jvm.Cond.methodLink "java/lang/Integer" (199 : Nat) ({ cls := "java/lang/Integer", name := "<init>", desc := "(I)V" } : Jvm.MethodName)) ∈ lw_all := lw_g (lw_at lw_m1 87 rfl) rfl
theorem q143 : (Jvm.Cond.instanceMethod ({ cls := "java/lang/Integer", name := "<init>", desc := "(I)V" } : Jvm.MethodName)) ∈ lw_all := lw_g (lw_at lw_m1 88 rfl) rfl
theorem q144 : (Jvm.Cond.code ({ cls := "java/lang/Integer", name := "<init>", desc := "(I)V" } : Jvm.MethodName) prog_19_method_23_code (2 : Nat) (Option.none : Option Jvm.ClassFile.FieldType)) ∈ lw_all := lw_g (lw_at lw_m1 89 rfl) rfl
theorem q145 : (Jvm.Cond.methodLink "java/lang/Integer" (202 : Nat) ({ cls := "java/lang/Number", name := "<init>", desc := "()V" } : Jvm.MethodName)) ∈ lw_all := lw_g (lw_at lw_m1 90 rfl) rfl
theorem q149 : (Jvm.Cond.fieldLink "java/lang/Integer" (205 : Nat) "java/lang/Integer" "value" "I") ∈ lw_all := lw_g (lw_at lw_m1 94 rfl) rfl
theorem q150 : (Jvm.Cond.laysFinal "java/lang/Integer" "java/lang/Integer" "value" "I") ∈ lw_all := lw_g (lw_at lw_m1 95 rfl) rfl
theorem q151 : (Jvm.Cond.soleField "java/lang/Integer" "value") ∈ lw_all := lw_g (lw_at lw_m1 96 rfl) rfl
theorem q152 : (Jvm.Cond.superclass "java/lang/Integer" "java/lang/Number") ∈ lw_all := lw_g (lw_at lw_m1 97 rfl) rfl
theorem q195 : (Jvm.Cond.selects "java/lang/Integer" ({ cls := "java/lang/Object", name := "getClass", desc := "()Ljava/lang/Class;" } : Jvm.MethodName) ({ cls := "java/lang/Object", name := "getClass", desc := "()Ljava/lang/Class;" } : Jvm.MethodName)) ∈ lw_all := lw_g (lw_at lw_m1 140 rfl) rfl
theorem q499 : (Jvm.Cond.instanceMethod ({ cls := "java/lang/Integer", name := "intValue", desc := "()I" } : Jvm.MethodName)) ∈ lw_all := lw_g (lw_at lw_m2 204 rfl) rfl
theorem q500 : (Jvm.Cond.selects "java/lang/Integer" ({ cls := "java/lang/Integer", name := "intValue", desc := "()I" } : Jvm.MethodName) ({ cls := "java/lang/Integer", name := "intValue", desc := "()I" } : Jvm.MethodName)) ∈ lw_all := lw_g (lw_at lw_m2 205 rfl) rfl
theorem q501 : (Jvm.Cond.code ({ cls := "java/lang/Integer", name := "intValue", desc := "()I" } : Jvm.MethodName) prog_19_method_27_code (1 : Nat) (Option.some Jvm.ClassFile.FieldType.int)) ∈ lw_all := lw_g (lw_at lw_m2 206 rfl) rfl
theorem q635 : (Jvm.Cond.static ({ cls := "java/lang/Integer", name := "compare", desc := "(II)I" } : Jvm.MethodName)) ∈ lw_all := lw_g (lw_at lw_m3 100 rfl) rfl
theorem q636 : (Jvm.Cond.code ({ cls := "java/lang/Integer", name := "compare", desc := "(II)I" } : Jvm.MethodName) prog_19_method_40_code (2 : Nat) (Option.some Jvm.ClassFile.FieldType.int)) ∈ lw_all := lw_g (lw_at lw_m3 101 rfl) rfl
theorem q657 : (Jvm.Cond.castable "java/lang/Integer" "java/lang/Comparable") ∈ lw_tbl := lw_at lw_m3 122 rfl
theorem q658 : (Jvm.Cond.selects "java/lang/Integer" ({ cls := "java/lang/Comparable", name := "compareTo", desc := "(Ljava/lang/Object;)I" } : Jvm.MethodName) ({ cls := "java/lang/Integer", name := "compareTo", desc := "(Ljava/lang/Object;)I" } : Jvm.MethodName)) ∈ lw_all := lw_g (lw_at lw_m3 123 rfl) rfl
theorem q659 : (Jvm.Cond.unhidden "java/lang/Integer" "compareTo" "(Ljava/lang/Object;)I") ∈ lw_tbl := lw_at lw_m3 124 rfl
theorem q660 : (Jvm.Cond.instanceMethod ({ cls := "java/lang/Integer", name := "compareTo", desc := "(Ljava/lang/Object;)I" } : Jvm.MethodName)) ∈ lw_all := lw_g (lw_at lw_m3 125 rfl) rfl
theorem q661 : (Jvm.Cond.publicMethod ({ cls := "java/lang/Integer", name := "compareTo", desc := "(Ljava/lang/Object;)I" } : Jvm.MethodName)) ∈ lw_tbl := lw_at lw_m3 126 rfl
theorem q662 : (Jvm.Cond.code ({ cls := "java/lang/Integer", name := "compareTo", desc := "(Ljava/lang/Object;)I" } : Jvm.MethodName) prog_19_method_63_code (2 : Nat) (Option.some Jvm.ClassFile.FieldType.int)) ∈ lw_all := lw_g (lw_at lw_m3 127 rfl) rfl
theorem q663 : (Jvm.Cond.methodLink "java/lang/Integer" (284 : Nat) ({ cls := "java/lang/Integer", name := "compareTo", desc := "(Ljava/lang/Integer;)I" } : Jvm.MethodName)) ∈ lw_all := lw_g (lw_at lw_m3 128 rfl) rfl
theorem q664 : (Jvm.Cond.instanceMethod ({ cls := "java/lang/Integer", name := "compareTo", desc := "(Ljava/lang/Integer;)I" } : Jvm.MethodName)) ∈ lw_all := lw_g (lw_at lw_m3 129 rfl) rfl
theorem q665 : (Jvm.Cond.selects "java/lang/Integer" ({ cls := "java/lang/Integer", name := "compareTo", desc := "(Ljava/lang/Integer;)I" } : Jvm.MethodName) ({ cls := "java/lang/Integer", name := "compareTo", desc := "(Ljava/lang/Integer;)I" } : Jvm.MethodName)) ∈ lw_all := lw_g (lw_at lw_m3 130 rfl) rfl
theorem q666 : (Jvm.Cond.code ({ cls := "java/lang/Integer", name := "compareTo", desc := "(Ljava/lang/Integer;)I" } : Jvm.MethodName) prog_19_method_39_code (2 : Nat) (Option.some Jvm.ClassFile.FieldType.int)) ∈ lw_all := lw_g (lw_at lw_m3 131 rfl) rfl
theorem q667 : (Jvm.Cond.methodLink "java/lang/Integer" (259 : Nat) ({ cls := "java/lang/Integer", name := "compare", desc := "(II)I" } : Jvm.MethodName)) ∈ lw_all := lw_g (lw_at lw_m3 132 rfl) rfl
theorem q764 : (Jvm.Cond.static ({ cls := "java/lang/Integer", name := "numberOfLeadingZeros", desc := "(I)I" } : Jvm.MethodName)) ∈ lw_all := lw_g (lw_at lw_m3 229 rfl) rfl
theorem q765 : (Jvm.Cond.code ({ cls := "java/lang/Integer", name := "numberOfLeadingZeros", desc := "(I)I" } : Jvm.MethodName) prog_19_method_47_code (2 : Nat) (Option.some Jvm.ClassFile.FieldType.int)) ∈ lw_all := lw_g (lw_at lw_m3 230 rfl) rfl
theorem q766 : (Jvm.Cond.constant "java/lang/Integer" (264 : Nat) (65536 : Int32)) ∈ lw_all := lw_g (lw_at lw_m3 231 rfl) rfl
theorem q773 : (Jvm.Cond.static ({ cls := "java/lang/Integer", name := "numberOfTrailingZeros", desc := "(I)I" } : Jvm.MethodName)) ∈ lw_all := lw_g (lw_at lw_m3 238 rfl) rfl
theorem q774 : (Jvm.Cond.code ({ cls := "java/lang/Integer", name := "numberOfTrailingZeros", desc := "(I)I" } : Jvm.MethodName) prog_19_method_48_code (2 : Nat) (Option.some Jvm.ClassFile.FieldType.int)) ∈ lw_all := lw_g (lw_at lw_m3 239 rfl) rfl
theorem q904 : (Jvm.Cond.static ({ cls := "java/lang/Integer", name := "bitCount", desc := "(I)I" } : Jvm.MethodName)) ∈ lw_all := lw_g (lw_at lw_m4 129 rfl) rfl
theorem q905 : (Jvm.Cond.code ({ cls := "java/lang/Integer", name := "bitCount", desc := "(I)I" } : Jvm.MethodName) prog_19_method_49_code (1 : Nat) (Option.some Jvm.ClassFile.FieldType.int)) ∈ lw_all := lw_g (lw_at lw_m4 130 rfl) rfl
theorem q906 : (Jvm.Cond.constant "java/lang/Integer" (265 : Nat) (1431655765 : Int32)) ∈ lw_all := lw_g (lw_at lw_m4 131 rfl) rfl
theorem q907 : (Jvm.Cond.constant "java/lang/Integer" (266 : Nat) (858993459 : Int32)) ∈ lw_all := lw_g (lw_at lw_m4 132 rfl) rfl
theorem q908 : (Jvm.Cond.constant "java/lang/Integer" (267 : Nat) (252645135 : Int32)) ∈ lw_all := lw_g (lw_at lw_m4 133 rfl) rfl
theorem q1277 : (Jvm.Cond.static ({ cls := "java/lang/Integer", name := "stringSize", desc := "(I)I" } : Jvm.MethodName)) ∈ lw_all := lw_g (lw_at lw_m6 22 rfl) rfl
theorem q1278 : (Jvm.Cond.code ({ cls := "java/lang/Integer", name := "stringSize", desc := "(I)I" } : Jvm.MethodName) prog_19_method_13_code (4 : Nat) (Option.some Jvm.ClassFile.FieldType.int)) ∈ lw_all := lw_g (lw_at lw_m6 23 rfl) rfl
theorem q1280 : (Jvm.Cond.static ({ cls := "java/lang/Integer", name := "getChars", desc := "(II[B)I" } : Jvm.MethodName)) ∈ lw_all := lw_g (lw_at lw_m6 25 rfl) rfl
theorem q1281 : (Jvm.Cond.code ({ cls := "java/lang/Integer", name := "getChars", desc := "(II[B)I" } : Jvm.MethodName) prog_19_method_12_code (7 : Nat) (Option.some Jvm.ClassFile.FieldType.int)) ∈ lw_all := lw_g (lw_at lw_m6 26 rfl) rfl
theorem q1282 : (Jvm.Cond.fieldLink "java/lang/Integer" (83 : Nat) "java/lang/Integer" "DigitOnes" "[B") ∈ lw_all := lw_g (lw_at lw_m6 27 rfl) rfl
theorem q1283 : (Jvm.Cond.laysStatic "java/lang/Integer" "DigitOnes" "[B") ∈ lw_tbl := lw_at lw_m6 28 rfl
theorem q1284 : (Jvm.Cond.fieldLink "java/lang/Integer" (87 : Nat) "java/lang/Integer" "DigitTens" "[B") ∈ lw_all := lw_g (lw_at lw_m6 29 rfl) rfl
theorem q1285 : (Jvm.Cond.laysStatic "java/lang/Integer" "DigitTens" "[B") ∈ lw_tbl := lw_at lw_m6 30 rfl
theorem q1885 : (Jvm.Cond.castable "java/lang/Integer" "java/lang/Object") ∈ lw_tbl := lw_at lw_m8 150 rfl
theorem in_J4 : ∀ w ∈ wsJ40, w ∈ lw_all := lw_in wsJ40 [150] (by decide +kernel) (by decide +kernel)

/-! jdk/internal/util/ArraysSupport -/
set_option maxRecDepth 100000
def RJ5 : String := "jdk/internal/util/ArraysSupport"
abbrev cJ5_newLength : ByteArray := prog_52_method_27_code
def yJ5_newLength : MethodName := ⟨RJ5, "newLength", "(III)I"⟩
def dkwJ5_newLength_1 : List UInt8 := [184, 0, 201, 172]
abbrev dktJ5_newLength_1 : List UInt8 := dkwJ5_newLength_1 ++ []
def dkwJ5_newLength_0 : List UInt8 := [26, 27, 28, 184, 0, 194, 96, 62, 3, 29, 162, 0, 11, 29, 18, 200, 163, 0, 5, 29, 172, 26, 27]
abbrev dktJ5_newLength_0 : List UInt8 := dkwJ5_newLength_0 ++ dktJ5_newLength_1
theorem dksJ5_newLength_0 : cJ5_newLength.data.toList.drop 0 = dktJ5_newLength_0 := by decide +kernel
theorem dksJ5_newLength_1 : cJ5_newLength.data.toList.drop 23 = dktJ5_newLength_1 := dk_seg dksJ5_newLength_0 23 rfl rfl
theorem dJ5_newLength_0 : decode cJ5_newLength 0 = .ok (.iload_n 0, 1) := dk_26 (dk_at dksJ5_newLength_0 0 rfl rfl)
theorem dJ5_newLength_1 : decode cJ5_newLength 1 = .ok (.iload_n 1, 1) := dk_27 (dk_at dksJ5_newLength_0 1 rfl rfl)
theorem dJ5_newLength_2 : decode cJ5_newLength 2 = .ok (.iload_n 2, 1) := dk_28 (dk_at dksJ5_newLength_0 2 rfl rfl)
theorem dJ5_newLength_3 : decode cJ5_newLength 3 = .ok (.invokestatic 194, 3) := dk_184 0 194 (dk_at dksJ5_newLength_0 3 rfl rfl)
theorem dJ5_newLength_6 : decode cJ5_newLength 6 = .ok (.iadd, 1) := dk_96 (dk_at dksJ5_newLength_0 6 rfl rfl)
theorem dJ5_newLength_7 : decode cJ5_newLength 7 = .ok (.istore_n 3, 1) := dk_62 (dk_at dksJ5_newLength_0 7 rfl rfl)
theorem dJ5_newLength_8 : decode cJ5_newLength 8 = .ok (.iconst 0, 1) := dk_3 (dk_at dksJ5_newLength_0 8 rfl rfl)
theorem dJ5_newLength_9 : decode cJ5_newLength 9 = .ok (.iload_n 3, 1) := dk_29 (dk_at dksJ5_newLength_0 9 rfl rfl)
theorem dJ5_newLength_10 : decode cJ5_newLength 10 = .ok (.if_icmp .ge 11, 3) := dk_162 0 11 (dk_at dksJ5_newLength_0 10 rfl rfl)
theorem dJ5_newLength_13 : decode cJ5_newLength 13 = .ok (.iload_n 3, 1) := dk_29 (dk_at dksJ5_newLength_0 13 rfl rfl)
theorem dJ5_newLength_14 : decode cJ5_newLength 14 = .ok (.ldc 200, 2) := dk_18 200 (dk_at dksJ5_newLength_0 14 rfl rfl)
theorem dJ5_newLength_16 : decode cJ5_newLength 16 = .ok (.if_icmp .gt 5, 3) := dk_163 0 5 (dk_at dksJ5_newLength_0 16 rfl rfl)
theorem dJ5_newLength_19 : decode cJ5_newLength 19 = .ok (.iload_n 3, 1) := dk_29 (dk_at dksJ5_newLength_0 19 rfl rfl)
theorem dJ5_newLength_20 : decode cJ5_newLength 20 = .ok (.ireturn, 1) := dk_172 (dk_at dksJ5_newLength_0 20 rfl rfl)
theorem dJ5_newLength_21 : decode cJ5_newLength 21 = .ok (.iload_n 0, 1) := dk_26 (dk_at dksJ5_newLength_0 21 rfl rfl)
theorem dJ5_newLength_22 : decode cJ5_newLength 22 = .ok (.iload_n 1, 1) := dk_27 (dk_at dksJ5_newLength_0 22 rfl rfl)
theorem dJ5_newLength_23 : decode cJ5_newLength 23 = .ok (.invokestatic 201, 3) := dk_184 0 201 (dk_at dksJ5_newLength_1 0 rfl rfl)
theorem dJ5_newLength_26 : decode cJ5_newLength 26 = .ok (.ireturn, 1) := dk_172 (dk_at dksJ5_newLength_1 3 rfl rfl)
abbrev cJ5_hugeLength : ByteArray := prog_52_method_28_code
def yJ5_hugeLength : MethodName := ⟨RJ5, "hugeLength", "(II)I"⟩
def dkwJ5_hugeLength_2 : List UInt8 := [191, 28, 18, 200, 163, 0, 6, 18, 200, 172, 28, 172]
abbrev dktJ5_hugeLength_2 : List UInt8 := dkwJ5_hugeLength_2 ++ []
def dkwJ5_hugeLength_1 : List UInt8 := [26, 182, 0, 98, 18, 208, 182, 0, 94, 27, 182, 0, 98, 18, 210, 182, 0, 94, 182, 0, 101, 183, 0, 212]
abbrev dktJ5_hugeLength_1 : List UInt8 := dkwJ5_hugeLength_1 ++ dktJ5_hugeLength_2
def dkwJ5_hugeLength_0 : List UInt8 := [26, 27, 96, 61, 28, 156, 0, 44, 187, 0, 204, 89, 187, 0, 89, 89, 183, 0, 91, 18, 206, 182, 0, 94]
abbrev dktJ5_hugeLength_0 : List UInt8 := dkwJ5_hugeLength_0 ++ dktJ5_hugeLength_1
theorem dksJ5_hugeLength_0 : cJ5_hugeLength.data.toList.drop 0 = dktJ5_hugeLength_0 := by decide +kernel
theorem dksJ5_hugeLength_1 : cJ5_hugeLength.data.toList.drop 24 = dktJ5_hugeLength_1 := dk_seg dksJ5_hugeLength_0 24 rfl rfl
theorem dksJ5_hugeLength_2 : cJ5_hugeLength.data.toList.drop 48 = dktJ5_hugeLength_2 := dk_seg dksJ5_hugeLength_1 24 rfl rfl
theorem dJ5_hugeLength_0 : decode cJ5_hugeLength 0 = .ok (.iload_n 0, 1) := dk_26 (dk_at dksJ5_hugeLength_0 0 rfl rfl)
theorem dJ5_hugeLength_1 : decode cJ5_hugeLength 1 = .ok (.iload_n 1, 1) := dk_27 (dk_at dksJ5_hugeLength_0 1 rfl rfl)
theorem dJ5_hugeLength_2 : decode cJ5_hugeLength 2 = .ok (.iadd, 1) := dk_96 (dk_at dksJ5_hugeLength_0 2 rfl rfl)
theorem dJ5_hugeLength_3 : decode cJ5_hugeLength 3 = .ok (.istore_n 2, 1) := dk_61 (dk_at dksJ5_hugeLength_0 3 rfl rfl)
theorem dJ5_hugeLength_4 : decode cJ5_hugeLength 4 = .ok (.iload_n 2, 1) := dk_28 (dk_at dksJ5_hugeLength_0 4 rfl rfl)
theorem dJ5_hugeLength_5 : decode cJ5_hugeLength 5 = .ok (.ifCond .ge 44, 3) := dk_156 0 44 (dk_at dksJ5_hugeLength_0 5 rfl rfl)
theorem dJ5_hugeLength_8 : decode cJ5_hugeLength 8 = .ok (.new 204, 3) := dk_187 0 204 (dk_at dksJ5_hugeLength_0 8 rfl rfl)
theorem dJ5_hugeLength_11 : decode cJ5_hugeLength 11 = .ok (.dup, 1) := dk_89 (dk_at dksJ5_hugeLength_0 11 rfl rfl)
theorem dJ5_hugeLength_12 : decode cJ5_hugeLength 12 = .ok (.new 89, 3) := dk_187 0 89 (dk_at dksJ5_hugeLength_0 12 rfl rfl)
theorem dJ5_hugeLength_15 : decode cJ5_hugeLength 15 = .ok (.dup, 1) := dk_89 (dk_at dksJ5_hugeLength_0 15 rfl rfl)
theorem dJ5_hugeLength_16 : decode cJ5_hugeLength 16 = .ok (.invokespecial 91, 3) := dk_183 0 91 (dk_at dksJ5_hugeLength_0 16 rfl rfl)
theorem dJ5_hugeLength_19 : decode cJ5_hugeLength 19 = .ok (.ldc 206, 2) := dk_18 206 (dk_at dksJ5_hugeLength_0 19 rfl rfl)
theorem dJ5_hugeLength_21 : decode cJ5_hugeLength 21 = .ok (.invokevirtual 94, 3) := dk_182 0 94 (dk_at dksJ5_hugeLength_0 21 rfl rfl)
theorem dJ5_hugeLength_24 : decode cJ5_hugeLength 24 = .ok (.iload_n 0, 1) := dk_26 (dk_at dksJ5_hugeLength_1 0 rfl rfl)
theorem dJ5_hugeLength_25 : decode cJ5_hugeLength 25 = .ok (.invokevirtual 98, 3) := dk_182 0 98 (dk_at dksJ5_hugeLength_1 1 rfl rfl)
theorem dJ5_hugeLength_28 : decode cJ5_hugeLength 28 = .ok (.ldc 208, 2) := dk_18 208 (dk_at dksJ5_hugeLength_1 4 rfl rfl)
theorem dJ5_hugeLength_30 : decode cJ5_hugeLength 30 = .ok (.invokevirtual 94, 3) := dk_182 0 94 (dk_at dksJ5_hugeLength_1 6 rfl rfl)
theorem dJ5_hugeLength_33 : decode cJ5_hugeLength 33 = .ok (.iload_n 1, 1) := dk_27 (dk_at dksJ5_hugeLength_1 9 rfl rfl)
theorem dJ5_hugeLength_34 : decode cJ5_hugeLength 34 = .ok (.invokevirtual 98, 3) := dk_182 0 98 (dk_at dksJ5_hugeLength_1 10 rfl rfl)
theorem dJ5_hugeLength_37 : decode cJ5_hugeLength 37 = .ok (.ldc 210, 2) := dk_18 210 (dk_at dksJ5_hugeLength_1 13 rfl rfl)
theorem dJ5_hugeLength_39 : decode cJ5_hugeLength 39 = .ok (.invokevirtual 94, 3) := dk_182 0 94 (dk_at dksJ5_hugeLength_1 15 rfl rfl)
theorem dJ5_hugeLength_42 : decode cJ5_hugeLength 42 = .ok (.invokevirtual 101, 3) := dk_182 0 101 (dk_at dksJ5_hugeLength_1 18 rfl rfl)
theorem dJ5_hugeLength_45 : decode cJ5_hugeLength 45 = .ok (.invokespecial 212, 3) := dk_183 0 212 (dk_at dksJ5_hugeLength_1 21 rfl rfl)
theorem dJ5_hugeLength_48 : decode cJ5_hugeLength 48 = .ok (.athrow, 1) := dk_191 (dk_at dksJ5_hugeLength_2 0 rfl rfl)
theorem dJ5_hugeLength_49 : decode cJ5_hugeLength 49 = .ok (.iload_n 2, 1) := dk_28 (dk_at dksJ5_hugeLength_2 1 rfl rfl)
theorem dJ5_hugeLength_50 : decode cJ5_hugeLength 50 = .ok (.ldc 200, 2) := dk_18 200 (dk_at dksJ5_hugeLength_2 2 rfl rfl)
theorem dJ5_hugeLength_52 : decode cJ5_hugeLength 52 = .ok (.if_icmp .gt 6, 3) := dk_163 0 6 (dk_at dksJ5_hugeLength_2 4 rfl rfl)
theorem dJ5_hugeLength_55 : decode cJ5_hugeLength 55 = .ok (.ldc 200, 2) := dk_18 200 (dk_at dksJ5_hugeLength_2 7 rfl rfl)
theorem dJ5_hugeLength_57 : decode cJ5_hugeLength 57 = .ok (.ireturn, 1) := dk_172 (dk_at dksJ5_hugeLength_2 9 rfl rfl)
theorem dJ5_hugeLength_58 : decode cJ5_hugeLength 58 = .ok (.iload_n 2, 1) := dk_28 (dk_at dksJ5_hugeLength_2 10 rfl rfl)
theorem dJ5_hugeLength_59 : decode cJ5_hugeLength 59 = .ok (.ireturn, 1) := dk_172 (dk_at dksJ5_hugeLength_2 11 rfl rfl)
abbrev cJ5_mismatch : ByteArray := prog_52_method_13_code
def yJ5_mismatch : MethodName := ⟨RJ5, "mismatch", "([B[BI)I"⟩
def dkwJ5_mismatch_3 : List UInt8 := [172]
abbrev dktJ5_mismatch_3 : List UInt8 := dkwJ5_mismatch_3 ++ []
def dkwJ5_mismatch_2 : List UInt8 := [62, 29, 28, 162, 0, 20, 42, 29, 51, 43, 29, 51, 159, 0, 5, 29, 172, 132, 3, 1, 167, 255, 237, 2]
abbrev dktJ5_mismatch_2 : List UInt8 := dkwJ5_mismatch_2 ++ dktJ5_mismatch_3
def dkwJ5_mismatch_1 : List UInt8 := [43, 178, 0, 126, 133, 28, 178, 0, 129, 184, 0, 122, 62, 29, 155, 0, 5, 29, 172, 28, 29, 2, 130, 100]
abbrev dktJ5_mismatch_1 : List UInt8 := dkwJ5_mismatch_1 ++ dktJ5_mismatch_2
def dkwJ5_mismatch_0 : List UInt8 := [3, 62, 28, 16, 7, 164, 0, 44, 42, 3, 51, 43, 3, 51, 159, 0, 5, 3, 172, 42, 178, 0, 126, 133]
abbrev dktJ5_mismatch_0 : List UInt8 := dkwJ5_mismatch_0 ++ dktJ5_mismatch_1
theorem dksJ5_mismatch_0 : cJ5_mismatch.data.toList.drop 0 = dktJ5_mismatch_0 := by decide +kernel
theorem dksJ5_mismatch_1 : cJ5_mismatch.data.toList.drop 24 = dktJ5_mismatch_1 := dk_seg dksJ5_mismatch_0 24 rfl rfl
theorem dksJ5_mismatch_2 : cJ5_mismatch.data.toList.drop 48 = dktJ5_mismatch_2 := dk_seg dksJ5_mismatch_1 24 rfl rfl
theorem dksJ5_mismatch_3 : cJ5_mismatch.data.toList.drop 72 = dktJ5_mismatch_3 := dk_seg dksJ5_mismatch_2 24 rfl rfl
theorem dJ5_mismatch_0 : decode cJ5_mismatch 0 = .ok (.iconst 0, 1) := dk_3 (dk_at dksJ5_mismatch_0 0 rfl rfl)
theorem dJ5_mismatch_1 : decode cJ5_mismatch 1 = .ok (.istore_n 3, 1) := dk_62 (dk_at dksJ5_mismatch_0 1 rfl rfl)
theorem dJ5_mismatch_2 : decode cJ5_mismatch 2 = .ok (.iload_n 2, 1) := dk_28 (dk_at dksJ5_mismatch_0 2 rfl rfl)
theorem dJ5_mismatch_3 : decode cJ5_mismatch 3 = .ok (.bipush 7, 2) := dk_16 7 (dk_at dksJ5_mismatch_0 3 rfl rfl)
theorem dJ5_mismatch_5 : decode cJ5_mismatch 5 = .ok (.if_icmp .le 44, 3) := dk_164 0 44 (dk_at dksJ5_mismatch_0 5 rfl rfl)
theorem dJ5_mismatch_8 : decode cJ5_mismatch 8 = .ok (.aload_n 0, 1) := dk_42 (dk_at dksJ5_mismatch_0 8 rfl rfl)
theorem dJ5_mismatch_9 : decode cJ5_mismatch 9 = .ok (.iconst 0, 1) := dk_3 (dk_at dksJ5_mismatch_0 9 rfl rfl)
theorem dJ5_mismatch_10 : decode cJ5_mismatch 10 = .ok (.baload, 1) := dk_51 (dk_at dksJ5_mismatch_0 10 rfl rfl)
theorem dJ5_mismatch_11 : decode cJ5_mismatch 11 = .ok (.aload_n 1, 1) := dk_43 (dk_at dksJ5_mismatch_0 11 rfl rfl)
theorem dJ5_mismatch_12 : decode cJ5_mismatch 12 = .ok (.iconst 0, 1) := dk_3 (dk_at dksJ5_mismatch_0 12 rfl rfl)
theorem dJ5_mismatch_13 : decode cJ5_mismatch 13 = .ok (.baload, 1) := dk_51 (dk_at dksJ5_mismatch_0 13 rfl rfl)
theorem dJ5_mismatch_14 : decode cJ5_mismatch 14 = .ok (.if_icmp .eq 5, 3) := dk_159 0 5 (dk_at dksJ5_mismatch_0 14 rfl rfl)
theorem dJ5_mismatch_17 : decode cJ5_mismatch 17 = .ok (.iconst 0, 1) := dk_3 (dk_at dksJ5_mismatch_0 17 rfl rfl)
theorem dJ5_mismatch_18 : decode cJ5_mismatch 18 = .ok (.ireturn, 1) := dk_172 (dk_at dksJ5_mismatch_0 18 rfl rfl)
theorem dJ5_mismatch_19 : decode cJ5_mismatch 19 = .ok (.aload_n 0, 1) := dk_42 (dk_at dksJ5_mismatch_0 19 rfl rfl)
theorem dJ5_mismatch_20 : decode cJ5_mismatch 20 = .ok (.getstatic 126, 3) := dk_178 0 126 (dk_at dksJ5_mismatch_0 20 rfl rfl)
theorem dJ5_mismatch_23 : decode cJ5_mismatch 23 = .ok (.i2l, 1) := dk_133 (dk_at dksJ5_mismatch_0 23 rfl rfl)
theorem dJ5_mismatch_24 : decode cJ5_mismatch 24 = .ok (.aload_n 1, 1) := dk_43 (dk_at dksJ5_mismatch_1 0 rfl rfl)
theorem dJ5_mismatch_25 : decode cJ5_mismatch 25 = .ok (.getstatic 126, 3) := dk_178 0 126 (dk_at dksJ5_mismatch_1 1 rfl rfl)
theorem dJ5_mismatch_28 : decode cJ5_mismatch 28 = .ok (.i2l, 1) := dk_133 (dk_at dksJ5_mismatch_1 4 rfl rfl)
theorem dJ5_mismatch_29 : decode cJ5_mismatch 29 = .ok (.iload_n 2, 1) := dk_28 (dk_at dksJ5_mismatch_1 5 rfl rfl)
theorem dJ5_mismatch_30 : decode cJ5_mismatch 30 = .ok (.getstatic 129, 3) := dk_178 0 129 (dk_at dksJ5_mismatch_1 6 rfl rfl)
theorem dJ5_mismatch_33 : decode cJ5_mismatch 33 = .ok (.invokestatic 122, 3) := dk_184 0 122 (dk_at dksJ5_mismatch_1 9 rfl rfl)
theorem dJ5_mismatch_36 : decode cJ5_mismatch 36 = .ok (.istore_n 3, 1) := dk_62 (dk_at dksJ5_mismatch_1 12 rfl rfl)
theorem dJ5_mismatch_37 : decode cJ5_mismatch 37 = .ok (.iload_n 3, 1) := dk_29 (dk_at dksJ5_mismatch_1 13 rfl rfl)
theorem dJ5_mismatch_38 : decode cJ5_mismatch 38 = .ok (.ifCond .lt 5, 3) := dk_155 0 5 (dk_at dksJ5_mismatch_1 14 rfl rfl)
theorem dJ5_mismatch_41 : decode cJ5_mismatch 41 = .ok (.iload_n 3, 1) := dk_29 (dk_at dksJ5_mismatch_1 17 rfl rfl)
theorem dJ5_mismatch_42 : decode cJ5_mismatch 42 = .ok (.ireturn, 1) := dk_172 (dk_at dksJ5_mismatch_1 18 rfl rfl)
theorem dJ5_mismatch_43 : decode cJ5_mismatch 43 = .ok (.iload_n 2, 1) := dk_28 (dk_at dksJ5_mismatch_1 19 rfl rfl)
theorem dJ5_mismatch_44 : decode cJ5_mismatch 44 = .ok (.iload_n 3, 1) := dk_29 (dk_at dksJ5_mismatch_1 20 rfl rfl)
theorem dJ5_mismatch_45 : decode cJ5_mismatch 45 = .ok (.iconst (-1), 1) := dk_2 (dk_at dksJ5_mismatch_1 21 rfl rfl)
theorem dJ5_mismatch_46 : decode cJ5_mismatch 46 = .ok (.ixor, 1) := dk_130 (dk_at dksJ5_mismatch_1 22 rfl rfl)
theorem dJ5_mismatch_47 : decode cJ5_mismatch 47 = .ok (.isub, 1) := dk_100 (dk_at dksJ5_mismatch_1 23 rfl rfl)
theorem dJ5_mismatch_48 : decode cJ5_mismatch 48 = .ok (.istore_n 3, 1) := dk_62 (dk_at dksJ5_mismatch_2 0 rfl rfl)
theorem dJ5_mismatch_49 : decode cJ5_mismatch 49 = .ok (.iload_n 3, 1) := dk_29 (dk_at dksJ5_mismatch_2 1 rfl rfl)
theorem dJ5_mismatch_50 : decode cJ5_mismatch 50 = .ok (.iload_n 2, 1) := dk_28 (dk_at dksJ5_mismatch_2 2 rfl rfl)
theorem dJ5_mismatch_51 : decode cJ5_mismatch 51 = .ok (.if_icmp .ge 20, 3) := dk_162 0 20 (dk_at dksJ5_mismatch_2 3 rfl rfl)
theorem dJ5_mismatch_54 : decode cJ5_mismatch 54 = .ok (.aload_n 0, 1) := dk_42 (dk_at dksJ5_mismatch_2 6 rfl rfl)
theorem dJ5_mismatch_55 : decode cJ5_mismatch 55 = .ok (.iload_n 3, 1) := dk_29 (dk_at dksJ5_mismatch_2 7 rfl rfl)
theorem dJ5_mismatch_56 : decode cJ5_mismatch 56 = .ok (.baload, 1) := dk_51 (dk_at dksJ5_mismatch_2 8 rfl rfl)
theorem dJ5_mismatch_57 : decode cJ5_mismatch 57 = .ok (.aload_n 1, 1) := dk_43 (dk_at dksJ5_mismatch_2 9 rfl rfl)
theorem dJ5_mismatch_58 : decode cJ5_mismatch 58 = .ok (.iload_n 3, 1) := dk_29 (dk_at dksJ5_mismatch_2 10 rfl rfl)
theorem dJ5_mismatch_59 : decode cJ5_mismatch 59 = .ok (.baload, 1) := dk_51 (dk_at dksJ5_mismatch_2 11 rfl rfl)
theorem dJ5_mismatch_60 : decode cJ5_mismatch 60 = .ok (.if_icmp .eq 5, 3) := dk_159 0 5 (dk_at dksJ5_mismatch_2 12 rfl rfl)
theorem dJ5_mismatch_63 : decode cJ5_mismatch 63 = .ok (.iload_n 3, 1) := dk_29 (dk_at dksJ5_mismatch_2 15 rfl rfl)
theorem dJ5_mismatch_64 : decode cJ5_mismatch 64 = .ok (.ireturn, 1) := dk_172 (dk_at dksJ5_mismatch_2 16 rfl rfl)
theorem dJ5_mismatch_65 : decode cJ5_mismatch 65 = .ok (.iinc 3 1, 3) := dk_132 3 1 (dk_at dksJ5_mismatch_2 17 rfl rfl)
theorem dJ5_mismatch_68 : decode cJ5_mismatch 68 = .ok (.goto (-19), 3) := dk_167 255 237 (dk_at dksJ5_mismatch_2 20 rfl rfl)
theorem dJ5_mismatch_71 : decode cJ5_mismatch 71 = .ok (.iconst (-1), 1) := dk_2 (dk_at dksJ5_mismatch_2 23 rfl rfl)
theorem dJ5_mismatch_72 : decode cJ5_mismatch 72 = .ok (.ireturn, 1) := dk_172 (dk_at dksJ5_mismatch_3 0 rfl rfl)
abbrev cJ5_vectorizedMismatch : ByteArray := prog_52_method_3_code
def yJ5_vectorizedMismatch : MethodName := ⟨RJ5, "vectorizedMismatch", "(Ljava/lang/Object;JLjava/lang/Object;JII)I"⟩
def dkwJ5_vectorizedMismatch_11 : List UInt8 := [54, 10, 21, 10, 2, 130, 172, 21, 10, 2, 130, 172]
abbrev dktJ5_vectorizedMismatch_11 : List UInt8 := dkwJ5_vectorizedMismatch_11 ++ []
def dkwJ5_vectorizedMismatch_10 : List UInt8 := [178, 0, 46, 21, 7, 96, 122, 54, 17, 21, 9, 21, 8, 120, 21, 17, 96, 172, 21, 10, 21, 11, 100]
abbrev dktJ5_vectorizedMismatch_10 : List UInt8 := dkwJ5_vectorizedMismatch_10 ++ dktJ5_vectorizedMismatch_11
def dkwJ5_vectorizedMismatch_9 : List UInt8 := [153, 0, 18, 21, 16, 184, 0, 58, 178, 0, 46, 21, 7, 96, 122, 167, 0, 15, 21, 16, 184, 0, 11]
abbrev dktJ5_vectorizedMismatch_9 : List UInt8 := dkwJ5_vectorizedMismatch_9 ++ dktJ5_vectorizedMismatch_10
def dkwJ5_vectorizedMismatch_8 : List UInt8 := [182, 0, 54, 54, 15, 21, 14, 21, 15, 159, 0, 54, 21, 14, 21, 15, 130, 54, 16, 178, 0, 36]
abbrev dktJ5_vectorizedMismatch_8 : List UInt8 := dkwJ5_vectorizedMismatch_8 ++ dktJ5_vectorizedMismatch_9
def dkwJ5_vectorizedMismatch_7 : List UInt8 := [55, 12, 178, 0, 26, 42, 31, 22, 12, 97, 182, 0, 54, 54, 14, 178, 0, 26, 45, 22, 4, 22, 12, 97]
abbrev dktJ5_vectorizedMismatch_7 : List UInt8 := dkwJ5_vectorizedMismatch_7 ++ dktJ5_vectorizedMismatch_8
def dkwJ5_vectorizedMismatch_6 : List UInt8 := [4, 178, 0, 51, 21, 7, 100, 120, 54, 11, 21, 10, 21, 11, 161, 0, 104, 21, 9, 133, 178, 0, 20, 121]
abbrev dktJ5_vectorizedMismatch_6 : List UInt8 := dkwJ5_vectorizedMismatch_6 ++ dktJ5_vectorizedMismatch_7
def dkwJ5_vectorizedMismatch_5 : List UInt8 := [132, 9, 1, 167, 255, 148, 21, 6, 21, 9, 21, 8, 120, 100, 54, 10, 21, 7, 178, 0, 51, 162, 0, 126]
abbrev dktJ5_vectorizedMismatch_5 : List UInt8 := dkwJ5_vectorizedMismatch_5 ++ dktJ5_vectorizedMismatch_6
def dkwJ5_vectorizedMismatch_4 : List UInt8 := [22, 16, 184, 0, 49, 178, 0, 46, 21, 7, 96, 122, 54, 18, 21, 9, 21, 8, 120, 21, 18, 96, 172]
abbrev dktJ5_vectorizedMismatch_4 : List UInt8 := dkwJ5_vectorizedMismatch_4 ++ dktJ5_vectorizedMismatch_5
def dkwJ5_vectorizedMismatch_3 : List UInt8 := [55, 16, 178, 0, 36, 153, 0, 18, 22, 16, 184, 0, 40, 178, 0, 46, 21, 7, 96, 122, 167, 0, 15]
abbrev dktJ5_vectorizedMismatch_3 : List UInt8 := dkwJ5_vectorizedMismatch_3 ++ dktJ5_vectorizedMismatch_4
def dkwJ5_vectorizedMismatch_2 : List UInt8 := [22, 4, 22, 10, 97, 182, 0, 30, 55, 14, 22, 12, 22, 14, 148, 153, 0, 54, 22, 12, 22, 14, 131]
abbrev dktJ5_vectorizedMismatch_2 : List UInt8 := dkwJ5_vectorizedMismatch_2 ++ dktJ5_vectorizedMismatch_3
def dkwJ5_vectorizedMismatch_1 : List UInt8 := [178, 0, 20, 121, 55, 10, 178, 0, 26, 42, 31, 22, 10, 97, 182, 0, 30, 55, 12, 178, 0, 26, 45]
abbrev dktJ5_vectorizedMismatch_1 : List UInt8 := dkwJ5_vectorizedMismatch_1 ++ dktJ5_vectorizedMismatch_2
def dkwJ5_vectorizedMismatch_0 : List UInt8 := [178, 0, 20, 21, 7, 100, 54, 8, 3, 54, 9, 21, 9, 21, 6, 21, 8, 122, 162, 0, 104, 21, 9, 133]
abbrev dktJ5_vectorizedMismatch_0 : List UInt8 := dkwJ5_vectorizedMismatch_0 ++ dktJ5_vectorizedMismatch_1
theorem dksJ5_vectorizedMismatch_0 : cJ5_vectorizedMismatch.data.toList.drop 0 = dktJ5_vectorizedMismatch_0 := by decide +kernel
theorem dksJ5_vectorizedMismatch_1 : cJ5_vectorizedMismatch.data.toList.drop 24 = dktJ5_vectorizedMismatch_1 := dk_seg dksJ5_vectorizedMismatch_0 24 rfl rfl
theorem dksJ5_vectorizedMismatch_2 : cJ5_vectorizedMismatch.data.toList.drop 47 = dktJ5_vectorizedMismatch_2 := dk_seg dksJ5_vectorizedMismatch_1 23 rfl rfl
theorem dksJ5_vectorizedMismatch_3 : cJ5_vectorizedMismatch.data.toList.drop 70 = dktJ5_vectorizedMismatch_3 := dk_seg dksJ5_vectorizedMismatch_2 23 rfl rfl
theorem dksJ5_vectorizedMismatch_4 : cJ5_vectorizedMismatch.data.toList.drop 93 = dktJ5_vectorizedMismatch_4 := dk_seg dksJ5_vectorizedMismatch_3 23 rfl rfl
theorem dksJ5_vectorizedMismatch_5 : cJ5_vectorizedMismatch.data.toList.drop 116 = dktJ5_vectorizedMismatch_5 := dk_seg dksJ5_vectorizedMismatch_4 23 rfl rfl
theorem dksJ5_vectorizedMismatch_6 : cJ5_vectorizedMismatch.data.toList.drop 140 = dktJ5_vectorizedMismatch_6 := dk_seg dksJ5_vectorizedMismatch_5 24 rfl rfl
theorem dksJ5_vectorizedMismatch_7 : cJ5_vectorizedMismatch.data.toList.drop 164 = dktJ5_vectorizedMismatch_7 := dk_seg dksJ5_vectorizedMismatch_6 24 rfl rfl
theorem dksJ5_vectorizedMismatch_8 : cJ5_vectorizedMismatch.data.toList.drop 188 = dktJ5_vectorizedMismatch_8 := dk_seg dksJ5_vectorizedMismatch_7 24 rfl rfl
theorem dksJ5_vectorizedMismatch_9 : cJ5_vectorizedMismatch.data.toList.drop 210 = dktJ5_vectorizedMismatch_9 := dk_seg dksJ5_vectorizedMismatch_8 22 rfl rfl
theorem dksJ5_vectorizedMismatch_10 : cJ5_vectorizedMismatch.data.toList.drop 233 = dktJ5_vectorizedMismatch_10 := dk_seg dksJ5_vectorizedMismatch_9 23 rfl rfl
theorem dksJ5_vectorizedMismatch_11 : cJ5_vectorizedMismatch.data.toList.drop 256 = dktJ5_vectorizedMismatch_11 := dk_seg dksJ5_vectorizedMismatch_10 23 rfl rfl
theorem dJ5_vectorizedMismatch_0 : decode cJ5_vectorizedMismatch 0 = .ok (.getstatic 20, 3) := dk_178 0 20 (dk_at dksJ5_vectorizedMismatch_0 0 rfl rfl)
theorem dJ5_vectorizedMismatch_3 : decode cJ5_vectorizedMismatch 3 = .ok (.iload 7, 2) := dk_21 7 (dk_at dksJ5_vectorizedMismatch_0 3 rfl rfl)
theorem dJ5_vectorizedMismatch_5 : decode cJ5_vectorizedMismatch 5 = .ok (.isub, 1) := dk_100 (dk_at dksJ5_vectorizedMismatch_0 5 rfl rfl)
theorem dJ5_vectorizedMismatch_6 : decode cJ5_vectorizedMismatch 6 = .ok (.istore 8, 2) := dk_54 8 (dk_at dksJ5_vectorizedMismatch_0 6 rfl rfl)
theorem dJ5_vectorizedMismatch_8 : decode cJ5_vectorizedMismatch 8 = .ok (.iconst 0, 1) := dk_3 (dk_at dksJ5_vectorizedMismatch_0 8 rfl rfl)
theorem dJ5_vectorizedMismatch_9 : decode cJ5_vectorizedMismatch 9 = .ok (.istore 9, 2) := dk_54 9 (dk_at dksJ5_vectorizedMismatch_0 9 rfl rfl)
theorem dJ5_vectorizedMismatch_11 : decode cJ5_vectorizedMismatch 11 = .ok (.iload 9, 2) := dk_21 9 (dk_at dksJ5_vectorizedMismatch_0 11 rfl rfl)
theorem dJ5_vectorizedMismatch_13 : decode cJ5_vectorizedMismatch 13 = .ok (.iload 6, 2) := dk_21 6 (dk_at dksJ5_vectorizedMismatch_0 13 rfl rfl)
theorem dJ5_vectorizedMismatch_15 : decode cJ5_vectorizedMismatch 15 = .ok (.iload 8, 2) := dk_21 8 (dk_at dksJ5_vectorizedMismatch_0 15 rfl rfl)
theorem dJ5_vectorizedMismatch_17 : decode cJ5_vectorizedMismatch 17 = .ok (.ishr, 1) := dk_122 (dk_at dksJ5_vectorizedMismatch_0 17 rfl rfl)
theorem dJ5_vectorizedMismatch_18 : decode cJ5_vectorizedMismatch 18 = .ok (.if_icmp .ge 104, 3) := dk_162 0 104 (dk_at dksJ5_vectorizedMismatch_0 18 rfl rfl)
theorem dJ5_vectorizedMismatch_21 : decode cJ5_vectorizedMismatch 21 = .ok (.iload 9, 2) := dk_21 9 (dk_at dksJ5_vectorizedMismatch_0 21 rfl rfl)
theorem dJ5_vectorizedMismatch_23 : decode cJ5_vectorizedMismatch 23 = .ok (.i2l, 1) := dk_133 (dk_at dksJ5_vectorizedMismatch_0 23 rfl rfl)
theorem dJ5_vectorizedMismatch_24 : decode cJ5_vectorizedMismatch 24 = .ok (.getstatic 20, 3) := dk_178 0 20 (dk_at dksJ5_vectorizedMismatch_1 0 rfl rfl)
theorem dJ5_vectorizedMismatch_27 : decode cJ5_vectorizedMismatch 27 = .ok (.lshl, 1) := dk_121 (dk_at dksJ5_vectorizedMismatch_1 3 rfl rfl)
theorem dJ5_vectorizedMismatch_28 : decode cJ5_vectorizedMismatch 28 = .ok (.lstore 10, 2) := dk_55 10 (dk_at dksJ5_vectorizedMismatch_1 4 rfl rfl)
theorem dJ5_vectorizedMismatch_30 : decode cJ5_vectorizedMismatch 30 = .ok (.getstatic 26, 3) := dk_178 0 26 (dk_at dksJ5_vectorizedMismatch_1 6 rfl rfl)
theorem dJ5_vectorizedMismatch_33 : decode cJ5_vectorizedMismatch 33 = .ok (.aload_n 0, 1) := dk_42 (dk_at dksJ5_vectorizedMismatch_1 9 rfl rfl)
theorem dJ5_vectorizedMismatch_34 : decode cJ5_vectorizedMismatch 34 = .ok (.lload_n 1, 1) := dk_31 (dk_at dksJ5_vectorizedMismatch_1 10 rfl rfl)
theorem dJ5_vectorizedMismatch_35 : decode cJ5_vectorizedMismatch 35 = .ok (.lload 10, 2) := dk_22 10 (dk_at dksJ5_vectorizedMismatch_1 11 rfl rfl)
theorem dJ5_vectorizedMismatch_37 : decode cJ5_vectorizedMismatch 37 = .ok (.ladd, 1) := dk_97 (dk_at dksJ5_vectorizedMismatch_1 13 rfl rfl)
theorem dJ5_vectorizedMismatch_38 : decode cJ5_vectorizedMismatch 38 = .ok (.invokevirtual 30, 3) := dk_182 0 30 (dk_at dksJ5_vectorizedMismatch_1 14 rfl rfl)
theorem dJ5_vectorizedMismatch_41 : decode cJ5_vectorizedMismatch 41 = .ok (.lstore 12, 2) := dk_55 12 (dk_at dksJ5_vectorizedMismatch_1 17 rfl rfl)
theorem dJ5_vectorizedMismatch_43 : decode cJ5_vectorizedMismatch 43 = .ok (.getstatic 26, 3) := dk_178 0 26 (dk_at dksJ5_vectorizedMismatch_1 19 rfl rfl)
theorem dJ5_vectorizedMismatch_46 : decode cJ5_vectorizedMismatch 46 = .ok (.aload_n 3, 1) := dk_45 (dk_at dksJ5_vectorizedMismatch_1 22 rfl rfl)
theorem dJ5_vectorizedMismatch_47 : decode cJ5_vectorizedMismatch 47 = .ok (.lload 4, 2) := dk_22 4 (dk_at dksJ5_vectorizedMismatch_2 0 rfl rfl)
theorem dJ5_vectorizedMismatch_49 : decode cJ5_vectorizedMismatch 49 = .ok (.lload 10, 2) := dk_22 10 (dk_at dksJ5_vectorizedMismatch_2 2 rfl rfl)
theorem dJ5_vectorizedMismatch_51 : decode cJ5_vectorizedMismatch 51 = .ok (.ladd, 1) := dk_97 (dk_at dksJ5_vectorizedMismatch_2 4 rfl rfl)
theorem dJ5_vectorizedMismatch_52 : decode cJ5_vectorizedMismatch 52 = .ok (.invokevirtual 30, 3) := dk_182 0 30 (dk_at dksJ5_vectorizedMismatch_2 5 rfl rfl)
theorem dJ5_vectorizedMismatch_55 : decode cJ5_vectorizedMismatch 55 = .ok (.lstore 14, 2) := dk_55 14 (dk_at dksJ5_vectorizedMismatch_2 8 rfl rfl)
theorem dJ5_vectorizedMismatch_57 : decode cJ5_vectorizedMismatch 57 = .ok (.lload 12, 2) := dk_22 12 (dk_at dksJ5_vectorizedMismatch_2 10 rfl rfl)
theorem dJ5_vectorizedMismatch_59 : decode cJ5_vectorizedMismatch 59 = .ok (.lload 14, 2) := dk_22 14 (dk_at dksJ5_vectorizedMismatch_2 12 rfl rfl)
theorem dJ5_vectorizedMismatch_61 : decode cJ5_vectorizedMismatch 61 = .ok (.lcmp, 1) := dk_148 (dk_at dksJ5_vectorizedMismatch_2 14 rfl rfl)
theorem dJ5_vectorizedMismatch_62 : decode cJ5_vectorizedMismatch 62 = .ok (.ifCond .eq 54, 3) := dk_153 0 54 (dk_at dksJ5_vectorizedMismatch_2 15 rfl rfl)
theorem dJ5_vectorizedMismatch_65 : decode cJ5_vectorizedMismatch 65 = .ok (.lload 12, 2) := dk_22 12 (dk_at dksJ5_vectorizedMismatch_2 18 rfl rfl)
theorem dJ5_vectorizedMismatch_67 : decode cJ5_vectorizedMismatch 67 = .ok (.lload 14, 2) := dk_22 14 (dk_at dksJ5_vectorizedMismatch_2 20 rfl rfl)
theorem dJ5_vectorizedMismatch_69 : decode cJ5_vectorizedMismatch 69 = .ok (.lxor, 1) := dk_131 (dk_at dksJ5_vectorizedMismatch_2 22 rfl rfl)
theorem dJ5_vectorizedMismatch_70 : decode cJ5_vectorizedMismatch 70 = .ok (.lstore 16, 2) := dk_55 16 (dk_at dksJ5_vectorizedMismatch_3 0 rfl rfl)
theorem dJ5_vectorizedMismatch_72 : decode cJ5_vectorizedMismatch 72 = .ok (.getstatic 36, 3) := dk_178 0 36 (dk_at dksJ5_vectorizedMismatch_3 2 rfl rfl)
theorem dJ5_vectorizedMismatch_75 : decode cJ5_vectorizedMismatch 75 = .ok (.ifCond .eq 18, 3) := dk_153 0 18 (dk_at dksJ5_vectorizedMismatch_3 5 rfl rfl)
theorem dJ5_vectorizedMismatch_78 : decode cJ5_vectorizedMismatch 78 = .ok (.lload 16, 2) := dk_22 16 (dk_at dksJ5_vectorizedMismatch_3 8 rfl rfl)
theorem dJ5_vectorizedMismatch_80 : decode cJ5_vectorizedMismatch 80 = .ok (.invokestatic 40, 3) := dk_184 0 40 (dk_at dksJ5_vectorizedMismatch_3 10 rfl rfl)
theorem dJ5_vectorizedMismatch_83 : decode cJ5_vectorizedMismatch 83 = .ok (.getstatic 46, 3) := dk_178 0 46 (dk_at dksJ5_vectorizedMismatch_3 13 rfl rfl)
theorem dJ5_vectorizedMismatch_86 : decode cJ5_vectorizedMismatch 86 = .ok (.iload 7, 2) := dk_21 7 (dk_at dksJ5_vectorizedMismatch_3 16 rfl rfl)
theorem dJ5_vectorizedMismatch_88 : decode cJ5_vectorizedMismatch 88 = .ok (.iadd, 1) := dk_96 (dk_at dksJ5_vectorizedMismatch_3 18 rfl rfl)
theorem dJ5_vectorizedMismatch_89 : decode cJ5_vectorizedMismatch 89 = .ok (.ishr, 1) := dk_122 (dk_at dksJ5_vectorizedMismatch_3 19 rfl rfl)
theorem dJ5_vectorizedMismatch_90 : decode cJ5_vectorizedMismatch 90 = .ok (.goto 15, 3) := dk_167 0 15 (dk_at dksJ5_vectorizedMismatch_3 20 rfl rfl)
theorem dJ5_vectorizedMismatch_93 : decode cJ5_vectorizedMismatch 93 = .ok (.lload 16, 2) := dk_22 16 (dk_at dksJ5_vectorizedMismatch_4 0 rfl rfl)
theorem dJ5_vectorizedMismatch_95 : decode cJ5_vectorizedMismatch 95 = .ok (.invokestatic 49, 3) := dk_184 0 49 (dk_at dksJ5_vectorizedMismatch_4 2 rfl rfl)
theorem dJ5_vectorizedMismatch_98 : decode cJ5_vectorizedMismatch 98 = .ok (.getstatic 46, 3) := dk_178 0 46 (dk_at dksJ5_vectorizedMismatch_4 5 rfl rfl)
theorem dJ5_vectorizedMismatch_101 : decode cJ5_vectorizedMismatch 101 = .ok (.iload 7, 2) := dk_21 7 (dk_at dksJ5_vectorizedMismatch_4 8 rfl rfl)
theorem dJ5_vectorizedMismatch_103 : decode cJ5_vectorizedMismatch 103 = .ok (.iadd, 1) := dk_96 (dk_at dksJ5_vectorizedMismatch_4 10 rfl rfl)
theorem dJ5_vectorizedMismatch_104 : decode cJ5_vectorizedMismatch 104 = .ok (.ishr, 1) := dk_122 (dk_at dksJ5_vectorizedMismatch_4 11 rfl rfl)
theorem dJ5_vectorizedMismatch_105 : decode cJ5_vectorizedMismatch 105 = .ok (.istore 18, 2) := dk_54 18 (dk_at dksJ5_vectorizedMismatch_4 12 rfl rfl)
theorem dJ5_vectorizedMismatch_107 : decode cJ5_vectorizedMismatch 107 = .ok (.iload 9, 2) := dk_21 9 (dk_at dksJ5_vectorizedMismatch_4 14 rfl rfl)
theorem dJ5_vectorizedMismatch_109 : decode cJ5_vectorizedMismatch 109 = .ok (.iload 8, 2) := dk_21 8 (dk_at dksJ5_vectorizedMismatch_4 16 rfl rfl)
theorem dJ5_vectorizedMismatch_111 : decode cJ5_vectorizedMismatch 111 = .ok (.ishl, 1) := dk_120 (dk_at dksJ5_vectorizedMismatch_4 18 rfl rfl)
theorem dJ5_vectorizedMismatch_112 : decode cJ5_vectorizedMismatch 112 = .ok (.iload 18, 2) := dk_21 18 (dk_at dksJ5_vectorizedMismatch_4 19 rfl rfl)
theorem dJ5_vectorizedMismatch_114 : decode cJ5_vectorizedMismatch 114 = .ok (.iadd, 1) := dk_96 (dk_at dksJ5_vectorizedMismatch_4 21 rfl rfl)
theorem dJ5_vectorizedMismatch_115 : decode cJ5_vectorizedMismatch 115 = .ok (.ireturn, 1) := dk_172 (dk_at dksJ5_vectorizedMismatch_4 22 rfl rfl)
theorem dJ5_vectorizedMismatch_116 : decode cJ5_vectorizedMismatch 116 = .ok (.iinc 9 1, 3) := dk_132 9 1 (dk_at dksJ5_vectorizedMismatch_5 0 rfl rfl)
theorem dJ5_vectorizedMismatch_119 : decode cJ5_vectorizedMismatch 119 = .ok (.goto (-108), 3) := dk_167 255 148 (dk_at dksJ5_vectorizedMismatch_5 3 rfl rfl)
theorem dJ5_vectorizedMismatch_122 : decode cJ5_vectorizedMismatch 122 = .ok (.iload 6, 2) := dk_21 6 (dk_at dksJ5_vectorizedMismatch_5 6 rfl rfl)
theorem dJ5_vectorizedMismatch_124 : decode cJ5_vectorizedMismatch 124 = .ok (.iload 9, 2) := dk_21 9 (dk_at dksJ5_vectorizedMismatch_5 8 rfl rfl)
theorem dJ5_vectorizedMismatch_126 : decode cJ5_vectorizedMismatch 126 = .ok (.iload 8, 2) := dk_21 8 (dk_at dksJ5_vectorizedMismatch_5 10 rfl rfl)
theorem dJ5_vectorizedMismatch_128 : decode cJ5_vectorizedMismatch 128 = .ok (.ishl, 1) := dk_120 (dk_at dksJ5_vectorizedMismatch_5 12 rfl rfl)
theorem dJ5_vectorizedMismatch_129 : decode cJ5_vectorizedMismatch 129 = .ok (.isub, 1) := dk_100 (dk_at dksJ5_vectorizedMismatch_5 13 rfl rfl)
theorem dJ5_vectorizedMismatch_130 : decode cJ5_vectorizedMismatch 130 = .ok (.istore 10, 2) := dk_54 10 (dk_at dksJ5_vectorizedMismatch_5 14 rfl rfl)
theorem dJ5_vectorizedMismatch_132 : decode cJ5_vectorizedMismatch 132 = .ok (.iload 7, 2) := dk_21 7 (dk_at dksJ5_vectorizedMismatch_5 16 rfl rfl)
theorem dJ5_vectorizedMismatch_134 : decode cJ5_vectorizedMismatch 134 = .ok (.getstatic 51, 3) := dk_178 0 51 (dk_at dksJ5_vectorizedMismatch_5 18 rfl rfl)
theorem dJ5_vectorizedMismatch_137 : decode cJ5_vectorizedMismatch 137 = .ok (.if_icmp .ge 126, 3) := dk_162 0 126 (dk_at dksJ5_vectorizedMismatch_5 21 rfl rfl)
theorem dJ5_vectorizedMismatch_140 : decode cJ5_vectorizedMismatch 140 = .ok (.iconst 1, 1) := dk_4 (dk_at dksJ5_vectorizedMismatch_6 0 rfl rfl)
theorem dJ5_vectorizedMismatch_141 : decode cJ5_vectorizedMismatch 141 = .ok (.getstatic 51, 3) := dk_178 0 51 (dk_at dksJ5_vectorizedMismatch_6 1 rfl rfl)
theorem dJ5_vectorizedMismatch_144 : decode cJ5_vectorizedMismatch 144 = .ok (.iload 7, 2) := dk_21 7 (dk_at dksJ5_vectorizedMismatch_6 4 rfl rfl)
theorem dJ5_vectorizedMismatch_146 : decode cJ5_vectorizedMismatch 146 = .ok (.isub, 1) := dk_100 (dk_at dksJ5_vectorizedMismatch_6 6 rfl rfl)
theorem dJ5_vectorizedMismatch_147 : decode cJ5_vectorizedMismatch 147 = .ok (.ishl, 1) := dk_120 (dk_at dksJ5_vectorizedMismatch_6 7 rfl rfl)
theorem dJ5_vectorizedMismatch_148 : decode cJ5_vectorizedMismatch 148 = .ok (.istore 11, 2) := dk_54 11 (dk_at dksJ5_vectorizedMismatch_6 8 rfl rfl)
theorem dJ5_vectorizedMismatch_150 : decode cJ5_vectorizedMismatch 150 = .ok (.iload 10, 2) := dk_21 10 (dk_at dksJ5_vectorizedMismatch_6 10 rfl rfl)
theorem dJ5_vectorizedMismatch_152 : decode cJ5_vectorizedMismatch 152 = .ok (.iload 11, 2) := dk_21 11 (dk_at dksJ5_vectorizedMismatch_6 12 rfl rfl)
theorem dJ5_vectorizedMismatch_154 : decode cJ5_vectorizedMismatch 154 = .ok (.if_icmp .lt 104, 3) := dk_161 0 104 (dk_at dksJ5_vectorizedMismatch_6 14 rfl rfl)
theorem dJ5_vectorizedMismatch_157 : decode cJ5_vectorizedMismatch 157 = .ok (.iload 9, 2) := dk_21 9 (dk_at dksJ5_vectorizedMismatch_6 17 rfl rfl)
theorem dJ5_vectorizedMismatch_159 : decode cJ5_vectorizedMismatch 159 = .ok (.i2l, 1) := dk_133 (dk_at dksJ5_vectorizedMismatch_6 19 rfl rfl)
theorem dJ5_vectorizedMismatch_160 : decode cJ5_vectorizedMismatch 160 = .ok (.getstatic 20, 3) := dk_178 0 20 (dk_at dksJ5_vectorizedMismatch_6 20 rfl rfl)
theorem dJ5_vectorizedMismatch_163 : decode cJ5_vectorizedMismatch 163 = .ok (.lshl, 1) := dk_121 (dk_at dksJ5_vectorizedMismatch_6 23 rfl rfl)
theorem dJ5_vectorizedMismatch_164 : decode cJ5_vectorizedMismatch 164 = .ok (.lstore 12, 2) := dk_55 12 (dk_at dksJ5_vectorizedMismatch_7 0 rfl rfl)
theorem dJ5_vectorizedMismatch_166 : decode cJ5_vectorizedMismatch 166 = .ok (.getstatic 26, 3) := dk_178 0 26 (dk_at dksJ5_vectorizedMismatch_7 2 rfl rfl)
theorem dJ5_vectorizedMismatch_169 : decode cJ5_vectorizedMismatch 169 = .ok (.aload_n 0, 1) := dk_42 (dk_at dksJ5_vectorizedMismatch_7 5 rfl rfl)
theorem dJ5_vectorizedMismatch_170 : decode cJ5_vectorizedMismatch 170 = .ok (.lload_n 1, 1) := dk_31 (dk_at dksJ5_vectorizedMismatch_7 6 rfl rfl)
theorem dJ5_vectorizedMismatch_171 : decode cJ5_vectorizedMismatch 171 = .ok (.lload 12, 2) := dk_22 12 (dk_at dksJ5_vectorizedMismatch_7 7 rfl rfl)
theorem dJ5_vectorizedMismatch_173 : decode cJ5_vectorizedMismatch 173 = .ok (.ladd, 1) := dk_97 (dk_at dksJ5_vectorizedMismatch_7 9 rfl rfl)
theorem dJ5_vectorizedMismatch_174 : decode cJ5_vectorizedMismatch 174 = .ok (.invokevirtual 54, 3) := dk_182 0 54 (dk_at dksJ5_vectorizedMismatch_7 10 rfl rfl)
theorem dJ5_vectorizedMismatch_177 : decode cJ5_vectorizedMismatch 177 = .ok (.istore 14, 2) := dk_54 14 (dk_at dksJ5_vectorizedMismatch_7 13 rfl rfl)
theorem dJ5_vectorizedMismatch_179 : decode cJ5_vectorizedMismatch 179 = .ok (.getstatic 26, 3) := dk_178 0 26 (dk_at dksJ5_vectorizedMismatch_7 15 rfl rfl)
theorem dJ5_vectorizedMismatch_182 : decode cJ5_vectorizedMismatch 182 = .ok (.aload_n 3, 1) := dk_45 (dk_at dksJ5_vectorizedMismatch_7 18 rfl rfl)
theorem dJ5_vectorizedMismatch_183 : decode cJ5_vectorizedMismatch 183 = .ok (.lload 4, 2) := dk_22 4 (dk_at dksJ5_vectorizedMismatch_7 19 rfl rfl)
theorem dJ5_vectorizedMismatch_185 : decode cJ5_vectorizedMismatch 185 = .ok (.lload 12, 2) := dk_22 12 (dk_at dksJ5_vectorizedMismatch_7 21 rfl rfl)
theorem dJ5_vectorizedMismatch_187 : decode cJ5_vectorizedMismatch 187 = .ok (.ladd, 1) := dk_97 (dk_at dksJ5_vectorizedMismatch_7 23 rfl rfl)
theorem dJ5_vectorizedMismatch_188 : decode cJ5_vectorizedMismatch 188 = .ok (.invokevirtual 54, 3) := dk_182 0 54 (dk_at dksJ5_vectorizedMismatch_8 0 rfl rfl)
theorem dJ5_vectorizedMismatch_191 : decode cJ5_vectorizedMismatch 191 = .ok (.istore 15, 2) := dk_54 15 (dk_at dksJ5_vectorizedMismatch_8 3 rfl rfl)
theorem dJ5_vectorizedMismatch_193 : decode cJ5_vectorizedMismatch 193 = .ok (.iload 14, 2) := dk_21 14 (dk_at dksJ5_vectorizedMismatch_8 5 rfl rfl)
theorem dJ5_vectorizedMismatch_195 : decode cJ5_vectorizedMismatch 195 = .ok (.iload 15, 2) := dk_21 15 (dk_at dksJ5_vectorizedMismatch_8 7 rfl rfl)
theorem dJ5_vectorizedMismatch_197 : decode cJ5_vectorizedMismatch 197 = .ok (.if_icmp .eq 54, 3) := dk_159 0 54 (dk_at dksJ5_vectorizedMismatch_8 9 rfl rfl)
theorem dJ5_vectorizedMismatch_200 : decode cJ5_vectorizedMismatch 200 = .ok (.iload 14, 2) := dk_21 14 (dk_at dksJ5_vectorizedMismatch_8 12 rfl rfl)
theorem dJ5_vectorizedMismatch_202 : decode cJ5_vectorizedMismatch 202 = .ok (.iload 15, 2) := dk_21 15 (dk_at dksJ5_vectorizedMismatch_8 14 rfl rfl)
theorem dJ5_vectorizedMismatch_204 : decode cJ5_vectorizedMismatch 204 = .ok (.ixor, 1) := dk_130 (dk_at dksJ5_vectorizedMismatch_8 16 rfl rfl)
theorem dJ5_vectorizedMismatch_205 : decode cJ5_vectorizedMismatch 205 = .ok (.istore 16, 2) := dk_54 16 (dk_at dksJ5_vectorizedMismatch_8 17 rfl rfl)
theorem dJ5_vectorizedMismatch_207 : decode cJ5_vectorizedMismatch 207 = .ok (.getstatic 36, 3) := dk_178 0 36 (dk_at dksJ5_vectorizedMismatch_8 19 rfl rfl)
theorem dJ5_vectorizedMismatch_210 : decode cJ5_vectorizedMismatch 210 = .ok (.ifCond .eq 18, 3) := dk_153 0 18 (dk_at dksJ5_vectorizedMismatch_9 0 rfl rfl)
theorem dJ5_vectorizedMismatch_213 : decode cJ5_vectorizedMismatch 213 = .ok (.iload 16, 2) := dk_21 16 (dk_at dksJ5_vectorizedMismatch_9 3 rfl rfl)
theorem dJ5_vectorizedMismatch_215 : decode cJ5_vectorizedMismatch 215 = .ok (.invokestatic 58, 3) := dk_184 0 58 (dk_at dksJ5_vectorizedMismatch_9 5 rfl rfl)
theorem dJ5_vectorizedMismatch_218 : decode cJ5_vectorizedMismatch 218 = .ok (.getstatic 46, 3) := dk_178 0 46 (dk_at dksJ5_vectorizedMismatch_9 8 rfl rfl)
theorem dJ5_vectorizedMismatch_221 : decode cJ5_vectorizedMismatch 221 = .ok (.iload 7, 2) := dk_21 7 (dk_at dksJ5_vectorizedMismatch_9 11 rfl rfl)
theorem dJ5_vectorizedMismatch_223 : decode cJ5_vectorizedMismatch 223 = .ok (.iadd, 1) := dk_96 (dk_at dksJ5_vectorizedMismatch_9 13 rfl rfl)
theorem dJ5_vectorizedMismatch_224 : decode cJ5_vectorizedMismatch 224 = .ok (.ishr, 1) := dk_122 (dk_at dksJ5_vectorizedMismatch_9 14 rfl rfl)
theorem dJ5_vectorizedMismatch_225 : decode cJ5_vectorizedMismatch 225 = .ok (.goto 15, 3) := dk_167 0 15 (dk_at dksJ5_vectorizedMismatch_9 15 rfl rfl)
theorem dJ5_vectorizedMismatch_228 : decode cJ5_vectorizedMismatch 228 = .ok (.iload 16, 2) := dk_21 16 (dk_at dksJ5_vectorizedMismatch_9 18 rfl rfl)
theorem dJ5_vectorizedMismatch_230 : decode cJ5_vectorizedMismatch 230 = .ok (.invokestatic 11, 3) := dk_184 0 11 (dk_at dksJ5_vectorizedMismatch_9 20 rfl rfl)
theorem dJ5_vectorizedMismatch_233 : decode cJ5_vectorizedMismatch 233 = .ok (.getstatic 46, 3) := dk_178 0 46 (dk_at dksJ5_vectorizedMismatch_10 0 rfl rfl)
theorem dJ5_vectorizedMismatch_236 : decode cJ5_vectorizedMismatch 236 = .ok (.iload 7, 2) := dk_21 7 (dk_at dksJ5_vectorizedMismatch_10 3 rfl rfl)
theorem dJ5_vectorizedMismatch_238 : decode cJ5_vectorizedMismatch 238 = .ok (.iadd, 1) := dk_96 (dk_at dksJ5_vectorizedMismatch_10 5 rfl rfl)
theorem dJ5_vectorizedMismatch_239 : decode cJ5_vectorizedMismatch 239 = .ok (.ishr, 1) := dk_122 (dk_at dksJ5_vectorizedMismatch_10 6 rfl rfl)
theorem dJ5_vectorizedMismatch_240 : decode cJ5_vectorizedMismatch 240 = .ok (.istore 17, 2) := dk_54 17 (dk_at dksJ5_vectorizedMismatch_10 7 rfl rfl)
theorem dJ5_vectorizedMismatch_242 : decode cJ5_vectorizedMismatch 242 = .ok (.iload 9, 2) := dk_21 9 (dk_at dksJ5_vectorizedMismatch_10 9 rfl rfl)
theorem dJ5_vectorizedMismatch_244 : decode cJ5_vectorizedMismatch 244 = .ok (.iload 8, 2) := dk_21 8 (dk_at dksJ5_vectorizedMismatch_10 11 rfl rfl)
theorem dJ5_vectorizedMismatch_246 : decode cJ5_vectorizedMismatch 246 = .ok (.ishl, 1) := dk_120 (dk_at dksJ5_vectorizedMismatch_10 13 rfl rfl)
theorem dJ5_vectorizedMismatch_247 : decode cJ5_vectorizedMismatch 247 = .ok (.iload 17, 2) := dk_21 17 (dk_at dksJ5_vectorizedMismatch_10 14 rfl rfl)
theorem dJ5_vectorizedMismatch_249 : decode cJ5_vectorizedMismatch 249 = .ok (.iadd, 1) := dk_96 (dk_at dksJ5_vectorizedMismatch_10 16 rfl rfl)
theorem dJ5_vectorizedMismatch_250 : decode cJ5_vectorizedMismatch 250 = .ok (.ireturn, 1) := dk_172 (dk_at dksJ5_vectorizedMismatch_10 17 rfl rfl)
theorem dJ5_vectorizedMismatch_251 : decode cJ5_vectorizedMismatch 251 = .ok (.iload 10, 2) := dk_21 10 (dk_at dksJ5_vectorizedMismatch_10 18 rfl rfl)
theorem dJ5_vectorizedMismatch_253 : decode cJ5_vectorizedMismatch 253 = .ok (.iload 11, 2) := dk_21 11 (dk_at dksJ5_vectorizedMismatch_10 20 rfl rfl)
theorem dJ5_vectorizedMismatch_255 : decode cJ5_vectorizedMismatch 255 = .ok (.isub, 1) := dk_100 (dk_at dksJ5_vectorizedMismatch_10 22 rfl rfl)
theorem dJ5_vectorizedMismatch_256 : decode cJ5_vectorizedMismatch 256 = .ok (.istore 10, 2) := dk_54 10 (dk_at dksJ5_vectorizedMismatch_11 0 rfl rfl)
theorem dJ5_vectorizedMismatch_258 : decode cJ5_vectorizedMismatch 258 = .ok (.iload 10, 2) := dk_21 10 (dk_at dksJ5_vectorizedMismatch_11 2 rfl rfl)
theorem dJ5_vectorizedMismatch_260 : decode cJ5_vectorizedMismatch 260 = .ok (.iconst (-1), 1) := dk_2 (dk_at dksJ5_vectorizedMismatch_11 4 rfl rfl)
theorem dJ5_vectorizedMismatch_261 : decode cJ5_vectorizedMismatch 261 = .ok (.ixor, 1) := dk_130 (dk_at dksJ5_vectorizedMismatch_11 5 rfl rfl)
theorem dJ5_vectorizedMismatch_262 : decode cJ5_vectorizedMismatch 262 = .ok (.ireturn, 1) := dk_172 (dk_at dksJ5_vectorizedMismatch_11 6 rfl rfl)
theorem dJ5_vectorizedMismatch_263 : decode cJ5_vectorizedMismatch 263 = .ok (.iload 10, 2) := dk_21 10 (dk_at dksJ5_vectorizedMismatch_11 7 rfl rfl)
theorem dJ5_vectorizedMismatch_265 : decode cJ5_vectorizedMismatch 265 = .ok (.iconst (-1), 1) := dk_2 (dk_at dksJ5_vectorizedMismatch_11 9 rfl rfl)
theorem dJ5_vectorizedMismatch_266 : decode cJ5_vectorizedMismatch 266 = .ok (.ixor, 1) := dk_130 (dk_at dksJ5_vectorizedMismatch_11 10 rfl rfl)
theorem dJ5_vectorizedMismatch_267 : decode cJ5_vectorizedMismatch 267 = .ok (.ireturn, 1) := dk_172 (dk_at dksJ5_vectorizedMismatch_11 11 rfl rfl)
theorem q63 : (Jvm.Cond.initialized "jdk/internal/util/ArraysSupport") ∈ lw_all := lw_g (lw_at lw_m1 8 rfl) rfl
theorem q170 : (Jvm.Cond.static ({ cls := "jdk/internal/util/ArraysSupport", name := "newLength", desc := "(III)I" } : Jvm.MethodName)) ∈ lw_all := lw_g (lw_at lw_m1 115 rfl) rfl
theorem q171 : (Jvm.Cond.code ({ cls := "jdk/internal/util/ArraysSupport", name := "newLength", desc := "(III)I" } : Jvm.MethodName) prog_52_method_27_code (4 : Nat) (Option.some Jvm.ClassFile.FieldType.int)) ∈ lw_all := lw_g (lw_at lw_m1 116 rfl) rfl
theorem q172 : (Jvm.Cond.methodLink "jdk/internal/util/ArraysSupport" (194 : Nat) ({ cls := "java/lang/Math", name := "max", desc := "(II)I" } : Jvm.MethodName)) ∈ lw_all := lw_g (lw_at lw_m1 117 rfl) rfl
theorem q175 : (Jvm.Cond.constant "jdk/internal/util/ArraysSupport" (200 : Nat) (2147483639 : Int32)) ∈ lw_all := lw_g (lw_at lw_m1 120 rfl) rfl
theorem q176 : (Jvm.Cond.methodLink "jdk/internal/util/ArraysSupport" (201 : Nat) ({ cls := "jdk/internal/util/ArraysSupport", name := "hugeLength", desc := "(II)I" } : Jvm.MethodName)) ∈ lw_all := lw_g (lw_at lw_m1 121 rfl) rfl
theorem q177 : (Jvm.Cond.static ({ cls := "jdk/internal/util/ArraysSupport", name := "hugeLength", desc := "(II)I" } : Jvm.MethodName)) ∈ lw_all := lw_g (lw_at lw_m1 122 rfl) rfl
theorem q178 : (Jvm.Cond.code ({ cls := "jdk/internal/util/ArraysSupport", name := "hugeLength", desc := "(II)I" } : Jvm.MethodName) prog_52_method_28_code (3 : Nat) (Option.some Jvm.ClassFile.FieldType.int)) ∈ lw_all := lw_g (lw_at lw_m1 123 rfl) rfl
theorem q693 : (Jvm.Cond.static ({ cls := "jdk/internal/util/ArraysSupport", name := "mismatch", desc := "([B[BI)I" } : Jvm.MethodName)) ∈ lw_all := lw_g (lw_at lw_m3 158 rfl) rfl
theorem q694 : (Jvm.Cond.code ({ cls := "jdk/internal/util/ArraysSupport", name := "mismatch", desc := "([B[BI)I" } : Jvm.MethodName) prog_52_method_13_code (4 : Nat) (Option.some Jvm.ClassFile.FieldType.int)) ∈ lw_all := lw_g (lw_at lw_m3 159 rfl) rfl
theorem q695 : (Jvm.Cond.fieldLink "jdk/internal/util/ArraysSupport" (126 : Nat) "jdk/internal/misc/Unsafe" "ARRAY_BYTE_BASE_OFFSET" "I") ∈ lw_all := lw_g (lw_at lw_m3 160 rfl) rfl
theorem q697 : (Jvm.Cond.fieldLink "jdk/internal/util/ArraysSupport" (129 : Nat) "jdk/internal/util/ArraysSupport" "LOG2_ARRAY_BYTE_INDEX_SCALE" "I") ∈ lw_all := lw_g (lw_at lw_m3 162 rfl) rfl
theorem q698 : (Jvm.Cond.laysStatic "jdk/internal/util/ArraysSupport" "LOG2_ARRAY_BYTE_INDEX_SCALE" "I") ∈ lw_tbl := lw_at lw_m3 163 rfl
theorem q699 : (Jvm.Cond.methodLink "jdk/internal/util/ArraysSupport" (122 : Nat) ({ cls := "jdk/internal/util/ArraysSupport", name := "vectorizedMismatch", desc := "(Ljava/lang/Object;JLjava/lang/Object;JII)I" } : Jvm.MethodName)) ∈ lw_all := lw_g (lw_at lw_m3 164 rfl) rfl
theorem q700 : (Jvm.Cond.static ({ cls := "jdk/internal/util/ArraysSupport", name := "vectorizedMismatch", desc := "(Ljava/lang/Object;JLjava/lang/Object;JII)I" } : Jvm.MethodName)) ∈ lw_all := lw_g (lw_at lw_m3 165 rfl) rfl
theorem q701 : (Jvm.Cond.code ({ cls := "jdk/internal/util/ArraysSupport", name := "vectorizedMismatch", desc := "(Ljava/lang/Object;JLjava/lang/Object;JII)I" } : Jvm.MethodName) prog_52_method_3_code (19 : Nat) (Option.some Jvm.ClassFile.FieldType.int)) ∈ lw_all := lw_g (lw_at lw_m3 166 rfl) rfl
theorem q702 : (Jvm.Cond.fieldLink "jdk/internal/util/ArraysSupport" (20 : Nat) "jdk/internal/util/ArraysSupport" "LOG2_ARRAY_LONG_INDEX_SCALE" "I") ∈ lw_all := lw_g (lw_at lw_m3 167 rfl) rfl
theorem q703 : (Jvm.Cond.laysStatic "jdk/internal/util/ArraysSupport" "LOG2_ARRAY_LONG_INDEX_SCALE" "I") ∈ lw_tbl := lw_at lw_m3 168 rfl
theorem q704 : (Jvm.Cond.fieldLink "jdk/internal/util/ArraysSupport" (26 : Nat) "jdk/internal/util/ArraysSupport" "U" "Ljdk/internal/misc/Unsafe;") ∈ lw_all := lw_g (lw_at lw_m3 169 rfl) rfl
theorem q705 : (Jvm.Cond.laysStatic "jdk/internal/util/ArraysSupport" "U" "Ljdk/internal/misc/Unsafe;") ∈ lw_tbl := lw_at lw_m3 170 rfl
theorem q706 : (Jvm.Cond.methodLink "jdk/internal/util/ArraysSupport" (30 : Nat) ({ cls := "jdk/internal/misc/Unsafe", name := "getLongUnaligned", desc := "(Ljava/lang/Object;J)J" } : Jvm.MethodName)) ∈ lw_all := lw_g (lw_at lw_m3 171 rfl) rfl
theorem q758 : (Jvm.Cond.fieldLink "jdk/internal/util/ArraysSupport" (36 : Nat) "jdk/internal/util/ArraysSupport" "BIG_ENDIAN" "Z") ∈ lw_all := lw_g (lw_at lw_m3 223 rfl) rfl
theorem q759 : (Jvm.Cond.laysStatic "jdk/internal/util/ArraysSupport" "BIG_ENDIAN" "Z") ∈ lw_tbl := lw_at lw_m3 224 rfl
theorem q760 : (Jvm.Cond.methodLink "jdk/internal/util/ArraysSupport" (40 : Nat) ({ cls := "java/lang/Long", name := "numberOfLeadingZeros", desc := "(J)I" } : Jvm.MethodName)) ∈ lw_all := lw_g (lw_at lw_m3 225 rfl) rfl
theorem q767 : (Jvm.Cond.fieldLink "jdk/internal/util/ArraysSupport" (46 : Nat) "jdk/internal/util/ArraysSupport" "LOG2_BYTE_BIT_SIZE" "I") ∈ lw_all := lw_g (lw_at lw_m3 232 rfl) rfl
theorem q768 : (Jvm.Cond.laysStatic "jdk/internal/util/ArraysSupport" "LOG2_BYTE_BIT_SIZE" "I") ∈ lw_tbl := lw_at lw_m3 233 rfl
theorem q769 : (Jvm.Cond.methodLink "jdk/internal/util/ArraysSupport" (49 : Nat) ({ cls := "java/lang/Long", name := "numberOfTrailingZeros", desc := "(J)I" } : Jvm.MethodName)) ∈ lw_all := lw_g (lw_at lw_m3 234 rfl) rfl
theorem q775 : (Jvm.Cond.fieldLink "jdk/internal/util/ArraysSupport" (51 : Nat) "jdk/internal/util/ArraysSupport" "LOG2_ARRAY_INT_INDEX_SCALE" "I") ∈ lw_all := lw_g (lw_at lw_m4 0 rfl) rfl
theorem q776 : (Jvm.Cond.laysStatic "jdk/internal/util/ArraysSupport" "LOG2_ARRAY_INT_INDEX_SCALE" "I") ∈ lw_tbl := lw_at lw_m4 1 rfl
theorem q777 : (Jvm.Cond.methodLink "jdk/internal/util/ArraysSupport" (54 : Nat) ({ cls := "jdk/internal/misc/Unsafe", name := "getIntUnaligned", desc := "(Ljava/lang/Object;J)I" } : Jvm.MethodName)) ∈ lw_all := lw_g (lw_at lw_m4 2 rfl) rfl
theorem q794 : (Jvm.Cond.methodLink "jdk/internal/util/ArraysSupport" (58 : Nat) ({ cls := "java/lang/Integer", name := "numberOfLeadingZeros", desc := "(I)I" } : Jvm.MethodName)) ∈ lw_all := lw_g (lw_at lw_m4 19 rfl) rfl
theorem q795 : (Jvm.Cond.methodLink "jdk/internal/util/ArraysSupport" (11 : Nat) ({ cls := "java/lang/Integer", name := "numberOfTrailingZeros", desc := "(I)I" } : Jvm.MethodName)) ∈ lw_all := lw_g (lw_at lw_m4 20 rfl) rfl

/-! java/lang/Math -/
set_option maxRecDepth 100000
def RJ6 : String := "java/lang/Math"
abbrev cJ6_max : ByteArray := prog_23_method_65_code
def yJ6_max : MethodName := ⟨RJ6, "max", "(II)I"⟩
def dkwJ6_max_0 : List UInt8 := [26, 27, 161, 0, 7, 26, 167, 0, 4, 27, 172]
abbrev dktJ6_max_0 : List UInt8 := dkwJ6_max_0 ++ []
theorem dksJ6_max_0 : cJ6_max.data.toList.drop 0 = dktJ6_max_0 := by decide +kernel
theorem dJ6_max_0 : decode cJ6_max 0 = .ok (.iload_n 0, 1) := dk_26 (dk_at dksJ6_max_0 0 rfl rfl)
theorem dJ6_max_1 : decode cJ6_max 1 = .ok (.iload_n 1, 1) := dk_27 (dk_at dksJ6_max_0 1 rfl rfl)
theorem dJ6_max_2 : decode cJ6_max 2 = .ok (.if_icmp .lt 7, 3) := dk_161 0 7 (dk_at dksJ6_max_0 2 rfl rfl)
theorem dJ6_max_5 : decode cJ6_max 5 = .ok (.iload_n 0, 1) := dk_26 (dk_at dksJ6_max_0 5 rfl rfl)
theorem dJ6_max_6 : decode cJ6_max 6 = .ok (.goto 4, 3) := dk_167 0 4 (dk_at dksJ6_max_0 6 rfl rfl)
theorem dJ6_max_9 : decode cJ6_max 9 = .ok (.iload_n 1, 1) := dk_27 (dk_at dksJ6_max_0 9 rfl rfl)
theorem dJ6_max_10 : decode cJ6_max 10 = .ok (.ireturn, 1) := dk_172 (dk_at dksJ6_max_0 10 rfl rfl)
abbrev cJ6_min : ByteArray := prog_23_method_69_code
def yJ6_min : MethodName := ⟨RJ6, "min", "(II)I"⟩
def dkwJ6_min_0 : List UInt8 := [26, 27, 163, 0, 7, 26, 167, 0, 4, 27, 172]
abbrev dktJ6_min_0 : List UInt8 := dkwJ6_min_0 ++ []
theorem dksJ6_min_0 : cJ6_min.data.toList.drop 0 = dktJ6_min_0 := by decide +kernel
theorem dJ6_min_0 : decode cJ6_min 0 = .ok (.iload_n 0, 1) := dk_26 (dk_at dksJ6_min_0 0 rfl rfl)
theorem dJ6_min_1 : decode cJ6_min 1 = .ok (.iload_n 1, 1) := dk_27 (dk_at dksJ6_min_0 1 rfl rfl)
theorem dJ6_min_2 : decode cJ6_min 2 = .ok (.if_icmp .gt 7, 3) := dk_163 0 7 (dk_at dksJ6_min_0 2 rfl rfl)
theorem dJ6_min_5 : decode cJ6_min 5 = .ok (.iload_n 0, 1) := dk_26 (dk_at dksJ6_min_0 5 rfl rfl)
theorem dJ6_min_6 : decode cJ6_min 6 = .ok (.goto 4, 3) := dk_167 0 4 (dk_at dksJ6_min_0 6 rfl rfl)
theorem dJ6_min_9 : decode cJ6_min 9 = .ok (.iload_n 1, 1) := dk_27 (dk_at dksJ6_min_0 9 rfl rfl)
theorem dJ6_min_10 : decode cJ6_min 10 = .ok (.ireturn, 1) := dk_172 (dk_at dksJ6_min_0 10 rfl rfl)
abbrev cJ6_abs : ByteArray := prog_23_method_59_code
def yJ6_abs : MethodName := ⟨RJ6, "abs", "(I)I"⟩
def dkwJ6_abs_0 : List UInt8 := [26, 156, 0, 8, 26, 116, 167, 0, 4, 26, 172]
abbrev dktJ6_abs_0 : List UInt8 := dkwJ6_abs_0 ++ []
theorem dksJ6_abs_0 : cJ6_abs.data.toList.drop 0 = dktJ6_abs_0 := by decide +kernel
theorem dJ6_abs_0 : decode cJ6_abs 0 = .ok (.iload_n 0, 1) := dk_26 (dk_at dksJ6_abs_0 0 rfl rfl)
theorem dJ6_abs_1 : decode cJ6_abs 1 = .ok (.ifCond .ge 8, 3) := dk_156 0 8 (dk_at dksJ6_abs_0 1 rfl rfl)
theorem dJ6_abs_4 : decode cJ6_abs 4 = .ok (.iload_n 0, 1) := dk_26 (dk_at dksJ6_abs_0 4 rfl rfl)
theorem dJ6_abs_5 : decode cJ6_abs 5 = .ok (.ineg, 1) := dk_116 (dk_at dksJ6_abs_0 5 rfl rfl)
theorem dJ6_abs_6 : decode cJ6_abs 6 = .ok (.goto 4, 3) := dk_167 0 4 (dk_at dksJ6_abs_0 6 rfl rfl)
theorem dJ6_abs_9 : decode cJ6_abs 9 = .ok (.iload_n 0, 1) := dk_26 (dk_at dksJ6_abs_0 9 rfl rfl)
theorem dJ6_abs_10 : decode cJ6_abs 10 = .ok (.ireturn, 1) := dk_172 (dk_at dksJ6_abs_0 10 rfl rfl)
theorem q64 : (Jvm.Cond.initialized "java/lang/Math") ∈ lw_all := lw_g (lw_at lw_m1 9 rfl) rfl
theorem q173 : (Jvm.Cond.static ({ cls := "java/lang/Math", name := "max", desc := "(II)I" } : Jvm.MethodName)) ∈ lw_all := lw_g (lw_at lw_m1 118 rfl) rfl
theorem q174 : (Jvm.Cond.code ({ cls := "java/lang/Math", name := "max", desc := "(II)I" } : Jvm.MethodName) prog_23_method_65_code (2 : Nat) (Option.some Jvm.ClassFile.FieldType.int)) ∈ lw_all := lw_g (lw_at lw_m1 119 rfl) rfl
theorem q211 : (Jvm.Cond.static ({ cls := "java/lang/Math", name := "min", desc := "(II)I" } : Jvm.MethodName)) ∈ lw_all := lw_g (lw_at lw_m1 156 rfl) rfl
theorem q212 : (Jvm.Cond.code ({ cls := "java/lang/Math", name := "min", desc := "(II)I" } : Jvm.MethodName) prog_23_method_69_code (2 : Nat) (Option.some Jvm.ClassFile.FieldType.int)) ∈ lw_all := lw_g (lw_at lw_m1 157 rfl) rfl
theorem q530 : (Jvm.Cond.static ({ cls := "java/lang/Math", name := "abs", desc := "(I)I" } : Jvm.MethodName)) ∈ lw_all := lw_g (lw_at lw_m2 235 rfl) rfl
theorem q531 : (Jvm.Cond.code ({ cls := "java/lang/Math", name := "abs", desc := "(I)I" } : Jvm.MethodName) prog_23_method_59_code (1 : Nat) (Option.some Jvm.ClassFile.FieldType.int)) ∈ lw_all := lw_g (lw_at lw_m2 236 rfl) rfl

/-! java/util/Arrays -/
set_option maxRecDepth 100000
def RJ7 : String := "java/util/Arrays"
abbrev cJ7_copyOf : ByteArray := prog_39_method_119_code
def yJ7_copyOf : MethodName := ⟨RJ7, "copyOf", "([Ljava/lang/Object;I)[Ljava/lang/Object;"⟩
def dkwJ7_copyOf_0 : List UInt8 := [42, 27, 42, 182, 0, 86, 184, 1, 44, 176]
abbrev dktJ7_copyOf_0 : List UInt8 := dkwJ7_copyOf_0 ++ []
theorem dksJ7_copyOf_0 : cJ7_copyOf.data.toList.drop 0 = dktJ7_copyOf_0 := by decide +kernel
theorem dJ7_copyOf_0 : decode cJ7_copyOf 0 = .ok (.aload_n 0, 1) := dk_42 (dk_at dksJ7_copyOf_0 0 rfl rfl)
theorem dJ7_copyOf_1 : decode cJ7_copyOf 1 = .ok (.iload_n 1, 1) := dk_27 (dk_at dksJ7_copyOf_0 1 rfl rfl)
theorem dJ7_copyOf_2 : decode cJ7_copyOf 2 = .ok (.aload_n 0, 1) := dk_42 (dk_at dksJ7_copyOf_0 2 rfl rfl)
theorem dJ7_copyOf_3 : decode cJ7_copyOf 3 = .ok (.invokevirtual 86, 3) := dk_182 0 86 (dk_at dksJ7_copyOf_0 3 rfl rfl)
theorem dJ7_copyOf_6 : decode cJ7_copyOf 6 = .ok (.invokestatic 300, 3) := dk_184 1 44 (dk_at dksJ7_copyOf_0 6 rfl rfl)
theorem dJ7_copyOf_9 : decode cJ7_copyOf 9 = .ok (.areturn, 1) := dk_176 (dk_at dksJ7_copyOf_0 9 rfl rfl)
abbrev cJ7_copyOf_2 : ByteArray := prog_39_method_120_code
def yJ7_copyOf_2 : MethodName := ⟨RJ7, "copyOf", "([Ljava/lang/Object;ILjava/lang/Class;)[Ljava/lang/Object;"⟩
def dkwJ7_copyOf_2_1 : List UInt8 := [78, 42, 3, 45, 3, 42, 190, 27, 184, 1, 48, 184, 0, 150, 45, 176]
abbrev dktJ7_copyOf_2_1 : List UInt8 := dkwJ7_copyOf_2_1 ++ []
def dkwJ7_copyOf_2_0 : List UInt8 := [44, 18, 110, 166, 0, 10, 27, 189, 0, 2, 167, 0, 14, 44, 182, 0, 90, 27, 184, 0, 95, 192, 0, 110]
abbrev dktJ7_copyOf_2_0 : List UInt8 := dkwJ7_copyOf_2_0 ++ dktJ7_copyOf_2_1
theorem dksJ7_copyOf_2_0 : cJ7_copyOf_2.data.toList.drop 0 = dktJ7_copyOf_2_0 := by decide +kernel
theorem dksJ7_copyOf_2_1 : cJ7_copyOf_2.data.toList.drop 24 = dktJ7_copyOf_2_1 := dk_seg dksJ7_copyOf_2_0 24 rfl rfl
theorem dJ7_copyOf_2_0 : decode cJ7_copyOf_2 0 = .ok (.aload_n 2, 1) := dk_44 (dk_at dksJ7_copyOf_2_0 0 rfl rfl)
theorem dJ7_copyOf_2_1 : decode cJ7_copyOf_2 1 = .ok (.ldc 110, 2) := dk_18 110 (dk_at dksJ7_copyOf_2_0 1 rfl rfl)
theorem dJ7_copyOf_2_3 : decode cJ7_copyOf_2 3 = .ok (.if_acmp .ne 10, 3) := dk_166 0 10 (dk_at dksJ7_copyOf_2_0 3 rfl rfl)
theorem dJ7_copyOf_2_6 : decode cJ7_copyOf_2 6 = .ok (.iload_n 1, 1) := dk_27 (dk_at dksJ7_copyOf_2_0 6 rfl rfl)
theorem dJ7_copyOf_2_7 : decode cJ7_copyOf_2 7 = .ok (.anewarray 2, 3) := dk_189 0 2 (dk_at dksJ7_copyOf_2_0 7 rfl rfl)
theorem dJ7_copyOf_2_10 : decode cJ7_copyOf_2 10 = .ok (.goto 14, 3) := dk_167 0 14 (dk_at dksJ7_copyOf_2_0 10 rfl rfl)
theorem dJ7_copyOf_2_13 : decode cJ7_copyOf_2 13 = .ok (.aload_n 2, 1) := dk_44 (dk_at dksJ7_copyOf_2_0 13 rfl rfl)
theorem dJ7_copyOf_2_14 : decode cJ7_copyOf_2 14 = .ok (.invokevirtual 90, 3) := dk_182 0 90 (dk_at dksJ7_copyOf_2_0 14 rfl rfl)
theorem dJ7_copyOf_2_17 : decode cJ7_copyOf_2 17 = .ok (.iload_n 1, 1) := dk_27 (dk_at dksJ7_copyOf_2_0 17 rfl rfl)
theorem dJ7_copyOf_2_18 : decode cJ7_copyOf_2 18 = .ok (.invokestatic 95, 3) := dk_184 0 95 (dk_at dksJ7_copyOf_2_0 18 rfl rfl)
theorem dJ7_copyOf_2_21 : decode cJ7_copyOf_2 21 = .ok (.checkcast 110, 3) := dk_192 0 110 (dk_at dksJ7_copyOf_2_0 21 rfl rfl)
theorem dJ7_copyOf_2_24 : decode cJ7_copyOf_2 24 = .ok (.astore_n 3, 1) := dk_78 (dk_at dksJ7_copyOf_2_1 0 rfl rfl)
theorem dJ7_copyOf_2_25 : decode cJ7_copyOf_2 25 = .ok (.aload_n 0, 1) := dk_42 (dk_at dksJ7_copyOf_2_1 1 rfl rfl)
theorem dJ7_copyOf_2_26 : decode cJ7_copyOf_2 26 = .ok (.iconst 0, 1) := dk_3 (dk_at dksJ7_copyOf_2_1 2 rfl rfl)
theorem dJ7_copyOf_2_27 : decode cJ7_copyOf_2 27 = .ok (.aload_n 3, 1) := dk_45 (dk_at dksJ7_copyOf_2_1 3 rfl rfl)
theorem dJ7_copyOf_2_28 : decode cJ7_copyOf_2 28 = .ok (.iconst 0, 1) := dk_3 (dk_at dksJ7_copyOf_2_1 4 rfl rfl)
theorem dJ7_copyOf_2_29 : decode cJ7_copyOf_2 29 = .ok (.aload_n 0, 1) := dk_42 (dk_at dksJ7_copyOf_2_1 5 rfl rfl)
theorem dJ7_copyOf_2_30 : decode cJ7_copyOf_2 30 = .ok (.arraylength, 1) := dk_190 (dk_at dksJ7_copyOf_2_1 6 rfl rfl)
theorem dJ7_copyOf_2_31 : decode cJ7_copyOf_2 31 = .ok (.iload_n 1, 1) := dk_27 (dk_at dksJ7_copyOf_2_1 7 rfl rfl)
theorem dJ7_copyOf_2_32 : decode cJ7_copyOf_2 32 = .ok (.invokestatic 304, 3) := dk_184 1 48 (dk_at dksJ7_copyOf_2_1 8 rfl rfl)
theorem dJ7_copyOf_2_35 : decode cJ7_copyOf_2 35 = .ok (.invokestatic 150, 3) := dk_184 0 150 (dk_at dksJ7_copyOf_2_1 11 rfl rfl)
theorem dJ7_copyOf_2_38 : decode cJ7_copyOf_2 38 = .ok (.aload_n 3, 1) := dk_45 (dk_at dksJ7_copyOf_2_1 14 rfl rfl)
theorem dJ7_copyOf_2_39 : decode cJ7_copyOf_2 39 = .ok (.areturn, 1) := dk_176 (dk_at dksJ7_copyOf_2_1 15 rfl rfl)
abbrev cJ7_copyOf_3 : ByteArray := prog_39_method_121_code
def yJ7_copyOf_3 : MethodName := ⟨RJ7, "copyOf", "([BI)[B"⟩
def dkwJ7_copyOf_3_1 : List UInt8 := [27, 184, 1, 48, 184, 0, 150, 44, 176]
abbrev dktJ7_copyOf_3_1 : List UInt8 := dkwJ7_copyOf_3_1 ++ []
def dkwJ7_copyOf_3_0 : List UInt8 := [27, 42, 190, 160, 0, 11, 42, 182, 1, 54, 192, 1, 55, 176, 27, 188, 8, 77, 42, 3, 44, 3, 42, 190]
abbrev dktJ7_copyOf_3_0 : List UInt8 := dkwJ7_copyOf_3_0 ++ dktJ7_copyOf_3_1
theorem dksJ7_copyOf_3_0 : cJ7_copyOf_3.data.toList.drop 0 = dktJ7_copyOf_3_0 := by decide +kernel
theorem dksJ7_copyOf_3_1 : cJ7_copyOf_3.data.toList.drop 24 = dktJ7_copyOf_3_1 := dk_seg dksJ7_copyOf_3_0 24 rfl rfl
theorem dJ7_copyOf_3_0 : decode cJ7_copyOf_3 0 = .ok (.iload_n 1, 1) := dk_27 (dk_at dksJ7_copyOf_3_0 0 rfl rfl)
theorem dJ7_copyOf_3_1 : decode cJ7_copyOf_3 1 = .ok (.aload_n 0, 1) := dk_42 (dk_at dksJ7_copyOf_3_0 1 rfl rfl)
theorem dJ7_copyOf_3_2 : decode cJ7_copyOf_3 2 = .ok (.arraylength, 1) := dk_190 (dk_at dksJ7_copyOf_3_0 2 rfl rfl)
theorem dJ7_copyOf_3_3 : decode cJ7_copyOf_3 3 = .ok (.if_icmp .ne 11, 3) := dk_160 0 11 (dk_at dksJ7_copyOf_3_0 3 rfl rfl)
theorem dJ7_copyOf_3_6 : decode cJ7_copyOf_3 6 = .ok (.aload_n 0, 1) := dk_42 (dk_at dksJ7_copyOf_3_0 6 rfl rfl)
theorem dJ7_copyOf_3_7 : decode cJ7_copyOf_3 7 = .ok (.invokevirtual 310, 3) := dk_182 1 54 (dk_at dksJ7_copyOf_3_0 7 rfl rfl)
theorem dJ7_copyOf_3_10 : decode cJ7_copyOf_3 10 = .ok (.checkcast 311, 3) := dk_192 1 55 (dk_at dksJ7_copyOf_3_0 10 rfl rfl)
theorem dJ7_copyOf_3_13 : decode cJ7_copyOf_3 13 = .ok (.areturn, 1) := dk_176 (dk_at dksJ7_copyOf_3_0 13 rfl rfl)
theorem dJ7_copyOf_3_14 : decode cJ7_copyOf_3 14 = .ok (.iload_n 1, 1) := dk_27 (dk_at dksJ7_copyOf_3_0 14 rfl rfl)
theorem dJ7_copyOf_3_15 : decode cJ7_copyOf_3 15 = .ok (.newarray .byte, 2) := dk_188_8 (dk_at dksJ7_copyOf_3_0 15 rfl rfl)
theorem dJ7_copyOf_3_17 : decode cJ7_copyOf_3 17 = .ok (.astore_n 2, 1) := dk_77 (dk_at dksJ7_copyOf_3_0 17 rfl rfl)
theorem dJ7_copyOf_3_18 : decode cJ7_copyOf_3 18 = .ok (.aload_n 0, 1) := dk_42 (dk_at dksJ7_copyOf_3_0 18 rfl rfl)
theorem dJ7_copyOf_3_19 : decode cJ7_copyOf_3 19 = .ok (.iconst 0, 1) := dk_3 (dk_at dksJ7_copyOf_3_0 19 rfl rfl)
theorem dJ7_copyOf_3_20 : decode cJ7_copyOf_3 20 = .ok (.aload_n 2, 1) := dk_44 (dk_at dksJ7_copyOf_3_0 20 rfl rfl)
theorem dJ7_copyOf_3_21 : decode cJ7_copyOf_3 21 = .ok (.iconst 0, 1) := dk_3 (dk_at dksJ7_copyOf_3_0 21 rfl rfl)
theorem dJ7_copyOf_3_22 : decode cJ7_copyOf_3 22 = .ok (.aload_n 0, 1) := dk_42 (dk_at dksJ7_copyOf_3_0 22 rfl rfl)
theorem dJ7_copyOf_3_23 : decode cJ7_copyOf_3 23 = .ok (.arraylength, 1) := dk_190 (dk_at dksJ7_copyOf_3_0 23 rfl rfl)
theorem dJ7_copyOf_3_24 : decode cJ7_copyOf_3 24 = .ok (.iload_n 1, 1) := dk_27 (dk_at dksJ7_copyOf_3_1 0 rfl rfl)
theorem dJ7_copyOf_3_25 : decode cJ7_copyOf_3 25 = .ok (.invokestatic 304, 3) := dk_184 1 48 (dk_at dksJ7_copyOf_3_1 1 rfl rfl)
theorem dJ7_copyOf_3_28 : decode cJ7_copyOf_3 28 = .ok (.invokestatic 150, 3) := dk_184 0 150 (dk_at dksJ7_copyOf_3_1 4 rfl rfl)
theorem dJ7_copyOf_3_31 : decode cJ7_copyOf_3 31 = .ok (.aload_n 2, 1) := dk_44 (dk_at dksJ7_copyOf_3_1 7 rfl rfl)
theorem dJ7_copyOf_3_32 : decode cJ7_copyOf_3 32 = .ok (.areturn, 1) := dk_176 (dk_at dksJ7_copyOf_3_1 8 rfl rfl)
abbrev cJ7_copyOfRange : ByteArray := prog_39_method_132_code
def yJ7_copyOfRange : MethodName := ⟨RJ7, "copyOfRange", "([BII)[B"⟩
def dkwJ7_copyOfRange_1 : List UInt8 := [176]
abbrev dktJ7_copyOfRange_1 : List UInt8 := dkwJ7_copyOfRange_1 ++ []
def dkwJ7_copyOfRange_0 : List UInt8 := [27, 154, 0, 9, 28, 42, 190, 159, 0, 10, 42, 27, 28, 184, 1, 83, 176, 42, 182, 1, 54, 192, 1, 55]
abbrev dktJ7_copyOfRange_0 : List UInt8 := dkwJ7_copyOfRange_0 ++ dktJ7_copyOfRange_1
theorem dksJ7_copyOfRange_0 : cJ7_copyOfRange.data.toList.drop 0 = dktJ7_copyOfRange_0 := by decide +kernel
theorem dksJ7_copyOfRange_1 : cJ7_copyOfRange.data.toList.drop 24 = dktJ7_copyOfRange_1 := dk_seg dksJ7_copyOfRange_0 24 rfl rfl
theorem dJ7_copyOfRange_0 : decode cJ7_copyOfRange 0 = .ok (.iload_n 1, 1) := dk_27 (dk_at dksJ7_copyOfRange_0 0 rfl rfl)
theorem dJ7_copyOfRange_1 : decode cJ7_copyOfRange 1 = .ok (.ifCond .ne 9, 3) := dk_154 0 9 (dk_at dksJ7_copyOfRange_0 1 rfl rfl)
theorem dJ7_copyOfRange_4 : decode cJ7_copyOfRange 4 = .ok (.iload_n 2, 1) := dk_28 (dk_at dksJ7_copyOfRange_0 4 rfl rfl)
theorem dJ7_copyOfRange_5 : decode cJ7_copyOfRange 5 = .ok (.aload_n 0, 1) := dk_42 (dk_at dksJ7_copyOfRange_0 5 rfl rfl)
theorem dJ7_copyOfRange_6 : decode cJ7_copyOfRange 6 = .ok (.arraylength, 1) := dk_190 (dk_at dksJ7_copyOfRange_0 6 rfl rfl)
theorem dJ7_copyOfRange_7 : decode cJ7_copyOfRange 7 = .ok (.if_icmp .eq 10, 3) := dk_159 0 10 (dk_at dksJ7_copyOfRange_0 7 rfl rfl)
theorem dJ7_copyOfRange_10 : decode cJ7_copyOfRange 10 = .ok (.aload_n 0, 1) := dk_42 (dk_at dksJ7_copyOfRange_0 10 rfl rfl)
theorem dJ7_copyOfRange_11 : decode cJ7_copyOfRange 11 = .ok (.iload_n 1, 1) := dk_27 (dk_at dksJ7_copyOfRange_0 11 rfl rfl)
theorem dJ7_copyOfRange_12 : decode cJ7_copyOfRange 12 = .ok (.iload_n 2, 1) := dk_28 (dk_at dksJ7_copyOfRange_0 12 rfl rfl)
theorem dJ7_copyOfRange_13 : decode cJ7_copyOfRange 13 = .ok (.invokestatic 339, 3) := dk_184 1 83 (dk_at dksJ7_copyOfRange_0 13 rfl rfl)
theorem dJ7_copyOfRange_16 : decode cJ7_copyOfRange 16 = .ok (.areturn, 1) := dk_176 (dk_at dksJ7_copyOfRange_0 16 rfl rfl)
theorem dJ7_copyOfRange_17 : decode cJ7_copyOfRange 17 = .ok (.aload_n 0, 1) := dk_42 (dk_at dksJ7_copyOfRange_0 17 rfl rfl)
theorem dJ7_copyOfRange_18 : decode cJ7_copyOfRange 18 = .ok (.invokevirtual 310, 3) := dk_182 1 54 (dk_at dksJ7_copyOfRange_0 18 rfl rfl)
theorem dJ7_copyOfRange_21 : decode cJ7_copyOfRange 21 = .ok (.checkcast 311, 3) := dk_192 1 55 (dk_at dksJ7_copyOfRange_0 21 rfl rfl)
theorem dJ7_copyOfRange_24 : decode cJ7_copyOfRange 24 = .ok (.areturn, 1) := dk_176 (dk_at dksJ7_copyOfRange_1 0 rfl rfl)
abbrev cJ7_copyOfRangeByte : ByteArray := prog_39_method_133_code
def yJ7_copyOfRangeByte : MethodName := ⟨RJ7, "copyOfRangeByte", "([BII)[B"⟩
def dkwJ7_copyOfRangeByte_1 : List UInt8 := [184, 1, 48, 184, 0, 150, 25, 4, 176]
abbrev dktJ7_copyOfRangeByte_1 : List UInt8 := dkwJ7_copyOfRangeByte_1 ++ []
def dkwJ7_copyOfRangeByte_0 : List UInt8 := [27, 28, 184, 1, 87, 28, 27, 100, 62, 29, 188, 8, 58, 4, 42, 27, 25, 4, 3, 42, 190, 27, 100, 29]
abbrev dktJ7_copyOfRangeByte_0 : List UInt8 := dkwJ7_copyOfRangeByte_0 ++ dktJ7_copyOfRangeByte_1
theorem dksJ7_copyOfRangeByte_0 : cJ7_copyOfRangeByte.data.toList.drop 0 = dktJ7_copyOfRangeByte_0 := by decide +kernel
theorem dksJ7_copyOfRangeByte_1 : cJ7_copyOfRangeByte.data.toList.drop 24 = dktJ7_copyOfRangeByte_1 := dk_seg dksJ7_copyOfRangeByte_0 24 rfl rfl
theorem dJ7_copyOfRangeByte_0 : decode cJ7_copyOfRangeByte 0 = .ok (.iload_n 1, 1) := dk_27 (dk_at dksJ7_copyOfRangeByte_0 0 rfl rfl)
theorem dJ7_copyOfRangeByte_1 : decode cJ7_copyOfRangeByte 1 = .ok (.iload_n 2, 1) := dk_28 (dk_at dksJ7_copyOfRangeByte_0 1 rfl rfl)
theorem dJ7_copyOfRangeByte_2 : decode cJ7_copyOfRangeByte 2 = .ok (.invokestatic 343, 3) := dk_184 1 87 (dk_at dksJ7_copyOfRangeByte_0 2 rfl rfl)
theorem dJ7_copyOfRangeByte_5 : decode cJ7_copyOfRangeByte 5 = .ok (.iload_n 2, 1) := dk_28 (dk_at dksJ7_copyOfRangeByte_0 5 rfl rfl)
theorem dJ7_copyOfRangeByte_6 : decode cJ7_copyOfRangeByte 6 = .ok (.iload_n 1, 1) := dk_27 (dk_at dksJ7_copyOfRangeByte_0 6 rfl rfl)
theorem dJ7_copyOfRangeByte_7 : decode cJ7_copyOfRangeByte 7 = .ok (.isub, 1) := dk_100 (dk_at dksJ7_copyOfRangeByte_0 7 rfl rfl)
theorem dJ7_copyOfRangeByte_8 : decode cJ7_copyOfRangeByte 8 = .ok (.istore_n 3, 1) := dk_62 (dk_at dksJ7_copyOfRangeByte_0 8 rfl rfl)
theorem dJ7_copyOfRangeByte_9 : decode cJ7_copyOfRangeByte 9 = .ok (.iload_n 3, 1) := dk_29 (dk_at dksJ7_copyOfRangeByte_0 9 rfl rfl)
theorem dJ7_copyOfRangeByte_10 : decode cJ7_copyOfRangeByte 10 = .ok (.newarray .byte, 2) := dk_188_8 (dk_at dksJ7_copyOfRangeByte_0 10 rfl rfl)
theorem dJ7_copyOfRangeByte_12 : decode cJ7_copyOfRangeByte 12 = .ok (.astore 4, 2) := dk_58 4 (dk_at dksJ7_copyOfRangeByte_0 12 rfl rfl)
theorem dJ7_copyOfRangeByte_14 : decode cJ7_copyOfRangeByte 14 = .ok (.aload_n 0, 1) := dk_42 (dk_at dksJ7_copyOfRangeByte_0 14 rfl rfl)
theorem dJ7_copyOfRangeByte_15 : decode cJ7_copyOfRangeByte 15 = .ok (.iload_n 1, 1) := dk_27 (dk_at dksJ7_copyOfRangeByte_0 15 rfl rfl)
theorem dJ7_copyOfRangeByte_16 : decode cJ7_copyOfRangeByte 16 = .ok (.aload 4, 2) := dk_25 4 (dk_at dksJ7_copyOfRangeByte_0 16 rfl rfl)
theorem dJ7_copyOfRangeByte_18 : decode cJ7_copyOfRangeByte 18 = .ok (.iconst 0, 1) := dk_3 (dk_at dksJ7_copyOfRangeByte_0 18 rfl rfl)
theorem dJ7_copyOfRangeByte_19 : decode cJ7_copyOfRangeByte 19 = .ok (.aload_n 0, 1) := dk_42 (dk_at dksJ7_copyOfRangeByte_0 19 rfl rfl)
theorem dJ7_copyOfRangeByte_20 : decode cJ7_copyOfRangeByte 20 = .ok (.arraylength, 1) := dk_190 (dk_at dksJ7_copyOfRangeByte_0 20 rfl rfl)
theorem dJ7_copyOfRangeByte_21 : decode cJ7_copyOfRangeByte 21 = .ok (.iload_n 1, 1) := dk_27 (dk_at dksJ7_copyOfRangeByte_0 21 rfl rfl)
theorem dJ7_copyOfRangeByte_22 : decode cJ7_copyOfRangeByte 22 = .ok (.isub, 1) := dk_100 (dk_at dksJ7_copyOfRangeByte_0 22 rfl rfl)
theorem dJ7_copyOfRangeByte_23 : decode cJ7_copyOfRangeByte 23 = .ok (.iload_n 3, 1) := dk_29 (dk_at dksJ7_copyOfRangeByte_0 23 rfl rfl)
theorem dJ7_copyOfRangeByte_24 : decode cJ7_copyOfRangeByte 24 = .ok (.invokestatic 304, 3) := dk_184 1 48 (dk_at dksJ7_copyOfRangeByte_1 0 rfl rfl)
theorem dJ7_copyOfRangeByte_27 : decode cJ7_copyOfRangeByte 27 = .ok (.invokestatic 150, 3) := dk_184 0 150 (dk_at dksJ7_copyOfRangeByte_1 3 rfl rfl)
theorem dJ7_copyOfRangeByte_30 : decode cJ7_copyOfRangeByte 30 = .ok (.aload 4, 2) := dk_25 4 (dk_at dksJ7_copyOfRangeByte_1 6 rfl rfl)
theorem dJ7_copyOfRangeByte_32 : decode cJ7_copyOfRangeByte 32 = .ok (.areturn, 1) := dk_176 (dk_at dksJ7_copyOfRangeByte_1 8 rfl rfl)
abbrev cJ7_checkLength : ByteArray := prog_39_method_131_code
def yJ7_checkLength : MethodName := ⟨RJ7, "checkLength", "(II)V"⟩
def dkwJ7_checkLength_1 : List UInt8 := [182, 0, 50, 27, 182, 0, 54, 182, 0, 61, 183, 0, 65, 191, 177]
abbrev dktJ7_checkLength_1 : List UInt8 := dkwJ7_checkLength_1 ++ []
def dkwJ7_checkLength_0 : List UInt8 := [27, 26, 162, 0, 35, 187, 0, 43, 89, 187, 0, 45, 89, 183, 0, 47, 26, 182, 0, 54, 19, 1, 81]
abbrev dktJ7_checkLength_0 : List UInt8 := dkwJ7_checkLength_0 ++ dktJ7_checkLength_1
theorem dksJ7_checkLength_0 : cJ7_checkLength.data.toList.drop 0 = dktJ7_checkLength_0 := by decide +kernel
theorem dksJ7_checkLength_1 : cJ7_checkLength.data.toList.drop 23 = dktJ7_checkLength_1 := dk_seg dksJ7_checkLength_0 23 rfl rfl
theorem dJ7_checkLength_0 : decode cJ7_checkLength 0 = .ok (.iload_n 1, 1) := dk_27 (dk_at dksJ7_checkLength_0 0 rfl rfl)
theorem dJ7_checkLength_1 : decode cJ7_checkLength 1 = .ok (.iload_n 0, 1) := dk_26 (dk_at dksJ7_checkLength_0 1 rfl rfl)
theorem dJ7_checkLength_2 : decode cJ7_checkLength 2 = .ok (.if_icmp .ge 35, 3) := dk_162 0 35 (dk_at dksJ7_checkLength_0 2 rfl rfl)
theorem dJ7_checkLength_5 : decode cJ7_checkLength 5 = .ok (.new 43, 3) := dk_187 0 43 (dk_at dksJ7_checkLength_0 5 rfl rfl)
theorem dJ7_checkLength_8 : decode cJ7_checkLength 8 = .ok (.dup, 1) := dk_89 (dk_at dksJ7_checkLength_0 8 rfl rfl)
theorem dJ7_checkLength_9 : decode cJ7_checkLength 9 = .ok (.new 45, 3) := dk_187 0 45 (dk_at dksJ7_checkLength_0 9 rfl rfl)
theorem dJ7_checkLength_12 : decode cJ7_checkLength 12 = .ok (.dup, 1) := dk_89 (dk_at dksJ7_checkLength_0 12 rfl rfl)
theorem dJ7_checkLength_13 : decode cJ7_checkLength 13 = .ok (.invokespecial 47, 3) := dk_183 0 47 (dk_at dksJ7_checkLength_0 13 rfl rfl)
theorem dJ7_checkLength_16 : decode cJ7_checkLength 16 = .ok (.iload_n 0, 1) := dk_26 (dk_at dksJ7_checkLength_0 16 rfl rfl)
theorem dJ7_checkLength_17 : decode cJ7_checkLength 17 = .ok (.invokevirtual 54, 3) := dk_182 0 54 (dk_at dksJ7_checkLength_0 17 rfl rfl)
theorem dJ7_checkLength_20 : decode cJ7_checkLength 20 = .ok (.ldc_w 337, 3) := dk_19 1 81 (dk_at dksJ7_checkLength_0 20 rfl rfl)
theorem dJ7_checkLength_23 : decode cJ7_checkLength 23 = .ok (.invokevirtual 50, 3) := dk_182 0 50 (dk_at dksJ7_checkLength_1 0 rfl rfl)
theorem dJ7_checkLength_26 : decode cJ7_checkLength 26 = .ok (.iload_n 1, 1) := dk_27 (dk_at dksJ7_checkLength_1 3 rfl rfl)
theorem dJ7_checkLength_27 : decode cJ7_checkLength 27 = .ok (.invokevirtual 54, 3) := dk_182 0 54 (dk_at dksJ7_checkLength_1 4 rfl rfl)
theorem dJ7_checkLength_30 : decode cJ7_checkLength 30 = .ok (.invokevirtual 61, 3) := dk_182 0 61 (dk_at dksJ7_checkLength_1 7 rfl rfl)
theorem dJ7_checkLength_33 : decode cJ7_checkLength 33 = .ok (.invokespecial 65, 3) := dk_183 0 65 (dk_at dksJ7_checkLength_1 10 rfl rfl)
theorem dJ7_checkLength_36 : decode cJ7_checkLength 36 = .ok (.athrow, 1) := dk_191 (dk_at dksJ7_checkLength_1 13 rfl rfl)
theorem dJ7_checkLength_37 : decode cJ7_checkLength 37 = .ok (.return_, 1) := dk_177 (dk_at dksJ7_checkLength_1 14 rfl rfl)
theorem q65 : (Jvm.Cond.initialized "java/util/Arrays") ∈ lw_all := lw_g (lw_at lw_m1 10 rfl) rfl
theorem q180 : (Jvm.Cond.static ({ cls := "java/util/Arrays", name := "copyOf", desc := "([Ljava/lang/Object;I)[Ljava/lang/Object;" } : Jvm.MethodName)) ∈ lw_all := lw_g (lw_at lw_m1 125 rfl) rfl
theorem q181 : (Jvm.Cond.code ({ cls := "java/util/Arrays", name := "copyOf", desc := "([Ljava/lang/Object;I)[Ljava/lang/Object;" } : Jvm.MethodName) prog_39_method_119_code (2 : Nat) (Option.some (Jvm.ClassFile.FieldType.array (Jvm.ClassFile.FieldType.object "java/lang/Object")))) ∈ lw_all := lw_g (lw_at lw_m1 126 rfl) rfl
theorem q182 : (Jvm.Cond.methodLink "java/util/Arrays" (86 : Nat) ({ cls := "java/lang/Object", name := "getClass", desc := "()Ljava/lang/Class;" } : Jvm.MethodName)) ∈ lw_all := lw_g (lw_at lw_m1 127 rfl) rfl
theorem q204 : (Jvm.Cond.methodLink "java/util/Arrays" (300 : Nat) ({ cls := "java/util/Arrays", name := "copyOf", desc := "([Ljava/lang/Object;ILjava/lang/Class;)[Ljava/lang/Object;" } : Jvm.MethodName)) ∈ lw_all := lw_g (lw_at lw_m1 149 rfl) rfl
theorem q205 : (Jvm.Cond.static ({ cls := "java/util/Arrays", name := "copyOf", desc := "([Ljava/lang/Object;ILjava/lang/Class;)[Ljava/lang/Object;" } : Jvm.MethodName)) ∈ lw_all := lw_g (lw_at lw_m1 150 rfl) rfl
theorem q206 : (Jvm.Cond.code ({ cls := "java/util/Arrays", name := "copyOf", desc := "([Ljava/lang/Object;ILjava/lang/Class;)[Ljava/lang/Object;" } : Jvm.MethodName) prog_39_method_120_code (4 : Nat) (Option.some (Jvm.ClassFile.FieldType.array (Jvm.ClassFile.FieldType.object "java/lang/Object")))) ∈ lw_all := lw_g (lw_at lw_m1 151 rfl) rfl
theorem q207 : (Jvm.Cond.classLink "java/util/Arrays" (110 : Nat) "[Ljava/lang/Object;") ∈ lw_all := lw_g (lw_at lw_m1 152 rfl) rfl
theorem q209 : (Jvm.Cond.classLink "java/util/Arrays" (2 : Nat) "java/lang/Object") ∈ lw_all := lw_g (lw_at lw_m1 154 rfl) rfl
theorem q210 : (Jvm.Cond.methodLink "java/util/Arrays" (304 : Nat) ({ cls := "java/lang/Math", name := "min", desc := "(II)I" } : Jvm.MethodName)) ∈ lw_all := lw_g (lw_at lw_m1 155 rfl) rfl
theorem q213 : (Jvm.Cond.methodLink "java/util/Arrays" (150 : Nat) ({ cls := "java/lang/System", name := "arraycopy", desc := "(Ljava/lang/Object;ILjava/lang/Object;II)V" } : Jvm.MethodName)) ∈ lw_all := lw_g (lw_at lw_m1 158 rfl) rfl
theorem q1210 : (Jvm.Cond.static ({ cls := "java/util/Arrays", name := "copyOf", desc := "([BI)[B" } : Jvm.MethodName)) ∈ lw_all := lw_g (lw_at lw_m5 195 rfl) rfl
theorem q1211 : (Jvm.Cond.code ({ cls := "java/util/Arrays", name := "copyOf", desc := "([BI)[B" } : Jvm.MethodName) prog_39_method_121_code (3 : Nat) (Option.some (Jvm.ClassFile.FieldType.array Jvm.ClassFile.FieldType.byte))) ∈ lw_all := lw_g (lw_at lw_m5 196 rfl) rfl
theorem q1212 : (Jvm.Cond.methodLink "java/util/Arrays" (310 : Nat) ({ cls := "[B", name := "clone", desc := "()Ljava/lang/Object;" } : Jvm.MethodName)) ∈ lw_all := lw_g (lw_at lw_m5 197 rfl) rfl
theorem q1218 : (Jvm.Cond.classLink "java/util/Arrays" (311 : Nat) "[B") ∈ lw_all := lw_g (lw_at lw_m5 203 rfl) rfl
theorem q1322 : (Jvm.Cond.static ({ cls := "java/util/Arrays", name := "copyOfRange", desc := "([BII)[B" } : Jvm.MethodName)) ∈ lw_all := lw_g (lw_at lw_m6 67 rfl) rfl
theorem q1323 : (Jvm.Cond.code ({ cls := "java/util/Arrays", name := "copyOfRange", desc := "([BII)[B" } : Jvm.MethodName) prog_39_method_132_code (3 : Nat) (Option.some (Jvm.ClassFile.FieldType.array Jvm.ClassFile.FieldType.byte))) ∈ lw_all := lw_g (lw_at lw_m6 68 rfl) rfl
theorem q1324 : (Jvm.Cond.methodLink "java/util/Arrays" (339 : Nat) ({ cls := "java/util/Arrays", name := "copyOfRangeByte", desc := "([BII)[B" } : Jvm.MethodName)) ∈ lw_all := lw_g (lw_at lw_m6 69 rfl) rfl
theorem q1325 : (Jvm.Cond.static ({ cls := "java/util/Arrays", name := "copyOfRangeByte", desc := "([BII)[B" } : Jvm.MethodName)) ∈ lw_all := lw_g (lw_at lw_m6 70 rfl) rfl
theorem q1326 : (Jvm.Cond.code ({ cls := "java/util/Arrays", name := "copyOfRangeByte", desc := "([BII)[B" } : Jvm.MethodName) prog_39_method_133_code (5 : Nat) (Option.some (Jvm.ClassFile.FieldType.array Jvm.ClassFile.FieldType.byte))) ∈ lw_all := lw_g (lw_at lw_m6 71 rfl) rfl
theorem q1327 : (Jvm.Cond.methodLink "java/util/Arrays" (343 : Nat) ({ cls := "java/util/Arrays", name := "checkLength", desc := "(II)V" } : Jvm.MethodName)) ∈ lw_all := lw_g (lw_at lw_m6 72 rfl) rfl
theorem q1328 : (Jvm.Cond.static ({ cls := "java/util/Arrays", name := "checkLength", desc := "(II)V" } : Jvm.MethodName)) ∈ lw_all := lw_g (lw_at lw_m6 73 rfl) rfl
theorem q1329 : (Jvm.Cond.code ({ cls := "java/util/Arrays", name := "checkLength", desc := "(II)V" } : Jvm.MethodName) prog_39_method_131_code (2 : Nat) (Option.none : Option Jvm.ClassFile.FieldType)) ∈ lw_all := lw_g (lw_at lw_m6 74 rfl) rfl
theorem q1330 : (Jvm.Cond.classLink "java/util/Arrays" (43 : Nat) "java/lang/IllegalArgumentException") ∈ lw_all := lw_g (lw_at lw_m6 75 rfl) rfl
theorem q1331 : (Jvm.Cond.classLink "java/util/Arrays" (45 : Nat) "java/lang/StringBuilder") ∈ lw_all := lw_g (lw_at lw_m6 76 rfl) rfl
theorem q1332 : (Jvm.Cond.methodLink "java/util/Arrays" (47 : Nat) ({ cls := "java/lang/StringBuilder", name := "<init>", desc := "()V" } : Jvm.MethodName)) ∈ lw_all := lw_g (lw_at lw_m6 77 rfl) rfl
theorem q1333 : (Jvm.Cond.methodLink "java/util/Arrays" (54 : Nat) ({ cls := "java/lang/StringBuilder", name := "append", desc := "(I)Ljava/lang/StringBuilder;" } : Jvm.MethodName)) ∈ lw_all := lw_g (lw_at lw_m6 78 rfl) rfl
theorem q1334 : (Jvm.Cond.stringRef "java/util/Arrays" (337 : Nat) " > ") ∈ lw_tbl := lw_at lw_m6 79 rfl
theorem q1335 : (Jvm.Cond.methodLink "java/util/Arrays" (50 : Nat) ({ cls := "java/lang/StringBuilder", name := "append", desc := "(Ljava/lang/String;)Ljava/lang/StringBuilder;" } : Jvm.MethodName)) ∈ lw_all := lw_g (lw_at lw_m6 80 rfl) rfl
theorem q1336 : (Jvm.Cond.methodLink "java/util/Arrays" (61 : Nat) ({ cls := "java/lang/StringBuilder", name := "toString", desc := "()Ljava/lang/String;" } : Jvm.MethodName)) ∈ lw_all := lw_g (lw_at lw_m6 81 rfl) rfl
theorem q1337 : (Jvm.Cond.methodLink "java/util/Arrays" (65 : Nat) ({ cls := "java/lang/IllegalArgumentException", name := "<init>", desc := "(Ljava/lang/String;)V" } : Jvm.MethodName)) ∈ lw_all := lw_g (lw_at lw_m6 82 rfl) rfl

/-! java/util/AbstractQueue -/
set_option maxRecDepth 100000
def RJ8 : String := "java/util/AbstractQueue"
abbrev cJ8_init : ByteArray := prog_36_method_1_code
def yJ8_init : MethodName := ⟨RJ8, "<init>", "()V"⟩
theorem dJ8_init_0 : decode cJ8_init 0 = .ok (.aload_n 0, 1) := by decide +kernel
theorem dJ8_init_1 : decode cJ8_init 1 = .ok (.invokespecial 1, 3) := by decide +kernel
theorem dJ8_init_4 : decode cJ8_init 4 = .ok (.return_, 1) := by decide +kernel
theorem q67 : (Jvm.Cond.initialized "java/util/AbstractQueue") ∈ lw_all := lw_g (lw_at lw_m1 12 rfl) rfl
theorem q238 : (Jvm.Cond.instanceMethod ({ cls := "java/util/AbstractQueue", name := "<init>", desc := "()V" } : Jvm.MethodName)) ∈ lw_all := lw_g (lw_at lw_m1 183 rfl) rfl
theorem q239 : (Jvm.Cond.code ({ cls := "java/util/AbstractQueue", name := "<init>", desc := "()V" } : Jvm.MethodName) prog_36_method_1_code (1 : Nat) (Option.none : Option Jvm.ClassFile.FieldType)) ∈ lw_all := lw_g (lw_at lw_m1 184 rfl) rfl
theorem q240 : (Jvm.Cond.methodLink "java/util/AbstractQueue" (1 : Nat) ({ cls := "java/util/AbstractCollection", name := "<init>", desc := "()V" } : Jvm.MethodName)) ∈ lw_all := lw_g (lw_at lw_m1 185 rfl) rfl

/-! java/util/PriorityQueue -/
set_option maxRecDepth 100000
def RJ9 : String := "java/util/PriorityQueue"
def TJ9 : u_T := fun k => match k with
  | 0 => ("java/util/PriorityQueue", "queue", "[Ljava/lang/Object;", false)
  | 1 => ("java/util/PriorityQueue", "size", "I", false)
  | 2 => ("java/util/PriorityQueue", "comparator", "Ljava/util/Comparator;", true)
  | _ => ("java/util/PriorityQueue", "modCount", "I", false)
def tyJ9 : Nat → FieldType := fun k => match k with
  | 0 => .array (.object "java/lang/Object")
  | 1 => .int
  | 2 => .object "java/util/Comparator"
  | _ => .int
abbrev wsJ90 : List Cond := u_ws RJ9 TJ9 4
theorem nmJ9 : ∀ a, a < 4 → ∀ b, b < 4 → a ≠ b → (TJ9 a).2.1 ≠ (TJ9 b).2.1 := by decide +kernel
theorem tyJ9_ok : ∀ k, k < 4 → parseFieldDescriptor (TJ9 k).2.2.1 = some (tyJ9 k) := by decide +kernel
abbrev cJ9_init : ByteArray := prog_46_method_3_code
def yJ9_init : MethodName := ⟨RJ9, "<init>", "(Ljava/util/Comparator;)V"⟩
def dkwJ9_init_0 : List UInt8 := [42, 16, 11, 43, 183, 0, 3, 177]
abbrev dktJ9_init_0 : List UInt8 := dkwJ9_init_0 ++ []
theorem dksJ9_init_0 : cJ9_init.data.toList.drop 0 = dktJ9_init_0 := by decide +kernel
theorem dJ9_init_0 : decode cJ9_init 0 = .ok (.aload_n 0, 1) := dk_42 (dk_at dksJ9_init_0 0 rfl rfl)
theorem dJ9_init_1 : decode cJ9_init 1 = .ok (.bipush 11, 2) := dk_16 11 (dk_at dksJ9_init_0 1 rfl rfl)
theorem dJ9_init_3 : decode cJ9_init 3 = .ok (.aload_n 1, 1) := dk_43 (dk_at dksJ9_init_0 3 rfl rfl)
theorem dJ9_init_4 : decode cJ9_init 4 = .ok (.invokespecial 3, 3) := dk_183 0 3 (dk_at dksJ9_init_0 4 rfl rfl)
theorem dJ9_init_7 : decode cJ9_init 7 = .ok (.return_, 1) := dk_177 (dk_at dksJ9_init_0 7 rfl rfl)
abbrev cJ9_init_2 : ByteArray := prog_46_method_4_code
def yJ9_init_2 : MethodName := ⟨RJ9, "<init>", "(ILjava/util/Comparator;)V"⟩
def dkwJ9_init_2_1 : List UInt8 := [181, 0, 17, 42, 44, 181, 0, 21, 177]
abbrev dktJ9_init_2_1 : List UInt8 := dkwJ9_init_2_1 ++ []
def dkwJ9_init_2_0 : List UInt8 := [42, 183, 0, 7, 27, 4, 162, 0, 11, 187, 0, 12, 89, 183, 0, 14, 191, 42, 27, 189, 0, 15]
abbrev dktJ9_init_2_0 : List UInt8 := dkwJ9_init_2_0 ++ dktJ9_init_2_1
theorem dksJ9_init_2_0 : cJ9_init_2.data.toList.drop 0 = dktJ9_init_2_0 := by decide +kernel
theorem dksJ9_init_2_1 : cJ9_init_2.data.toList.drop 22 = dktJ9_init_2_1 := dk_seg dksJ9_init_2_0 22 rfl rfl
theorem dJ9_init_2_0 : decode cJ9_init_2 0 = .ok (.aload_n 0, 1) := dk_42 (dk_at dksJ9_init_2_0 0 rfl rfl)
theorem dJ9_init_2_1 : decode cJ9_init_2 1 = .ok (.invokespecial 7, 3) := dk_183 0 7 (dk_at dksJ9_init_2_0 1 rfl rfl)
theorem dJ9_init_2_4 : decode cJ9_init_2 4 = .ok (.iload_n 1, 1) := dk_27 (dk_at dksJ9_init_2_0 4 rfl rfl)
theorem dJ9_init_2_5 : decode cJ9_init_2 5 = .ok (.iconst 1, 1) := dk_4 (dk_at dksJ9_init_2_0 5 rfl rfl)
theorem dJ9_init_2_6 : decode cJ9_init_2 6 = .ok (.if_icmp .ge 11, 3) := dk_162 0 11 (dk_at dksJ9_init_2_0 6 rfl rfl)
theorem dJ9_init_2_9 : decode cJ9_init_2 9 = .ok (.new 12, 3) := dk_187 0 12 (dk_at dksJ9_init_2_0 9 rfl rfl)
theorem dJ9_init_2_12 : decode cJ9_init_2 12 = .ok (.dup, 1) := dk_89 (dk_at dksJ9_init_2_0 12 rfl rfl)
theorem dJ9_init_2_13 : decode cJ9_init_2 13 = .ok (.invokespecial 14, 3) := dk_183 0 14 (dk_at dksJ9_init_2_0 13 rfl rfl)
theorem dJ9_init_2_16 : decode cJ9_init_2 16 = .ok (.athrow, 1) := dk_191 (dk_at dksJ9_init_2_0 16 rfl rfl)
theorem dJ9_init_2_17 : decode cJ9_init_2 17 = .ok (.aload_n 0, 1) := dk_42 (dk_at dksJ9_init_2_0 17 rfl rfl)
theorem dJ9_init_2_18 : decode cJ9_init_2 18 = .ok (.iload_n 1, 1) := dk_27 (dk_at dksJ9_init_2_0 18 rfl rfl)
theorem dJ9_init_2_19 : decode cJ9_init_2 19 = .ok (.anewarray 15, 3) := dk_189 0 15 (dk_at dksJ9_init_2_0 19 rfl rfl)
theorem dJ9_init_2_22 : decode cJ9_init_2 22 = .ok (.putfield 17, 3) := dk_181 0 17 (dk_at dksJ9_init_2_1 0 rfl rfl)
theorem dJ9_init_2_25 : decode cJ9_init_2 25 = .ok (.aload_n 0, 1) := dk_42 (dk_at dksJ9_init_2_1 3 rfl rfl)
theorem dJ9_init_2_26 : decode cJ9_init_2 26 = .ok (.aload_n 2, 1) := dk_44 (dk_at dksJ9_init_2_1 4 rfl rfl)
theorem dJ9_init_2_27 : decode cJ9_init_2 27 = .ok (.putfield 21, 3) := dk_181 0 21 (dk_at dksJ9_init_2_1 5 rfl rfl)
theorem dJ9_init_2_30 : decode cJ9_init_2 30 = .ok (.return_, 1) := dk_177 (dk_at dksJ9_init_2_1 8 rfl rfl)
abbrev cJ9_clear : ByteArray := prog_46_method_24_code
def yJ9_clear : MethodName := ⟨RJ9, "clear", "()V"⟩
def dkwJ9_clear_1 : List UInt8 := [162, 0, 13, 43, 28, 1, 83, 132, 2, 1, 167, 255, 244, 42, 3, 181, 0, 58, 177]
abbrev dktJ9_clear_1 : List UInt8 := dkwJ9_clear_1 ++ []
def dkwJ9_clear_0 : List UInt8 := [42, 89, 180, 0, 93, 4, 96, 181, 0, 93, 42, 180, 0, 17, 76, 3, 61, 42, 180, 0, 58, 62, 28, 29]
abbrev dktJ9_clear_0 : List UInt8 := dkwJ9_clear_0 ++ dktJ9_clear_1
theorem dksJ9_clear_0 : cJ9_clear.data.toList.drop 0 = dktJ9_clear_0 := by decide +kernel
theorem dksJ9_clear_1 : cJ9_clear.data.toList.drop 24 = dktJ9_clear_1 := dk_seg dksJ9_clear_0 24 rfl rfl
theorem dJ9_clear_0 : decode cJ9_clear 0 = .ok (.aload_n 0, 1) := dk_42 (dk_at dksJ9_clear_0 0 rfl rfl)
theorem dJ9_clear_1 : decode cJ9_clear 1 = .ok (.dup, 1) := dk_89 (dk_at dksJ9_clear_0 1 rfl rfl)
theorem dJ9_clear_2 : decode cJ9_clear 2 = .ok (.getfield 93, 3) := dk_180 0 93 (dk_at dksJ9_clear_0 2 rfl rfl)
theorem dJ9_clear_5 : decode cJ9_clear 5 = .ok (.iconst 1, 1) := dk_4 (dk_at dksJ9_clear_0 5 rfl rfl)
theorem dJ9_clear_6 : decode cJ9_clear 6 = .ok (.iadd, 1) := dk_96 (dk_at dksJ9_clear_0 6 rfl rfl)
theorem dJ9_clear_7 : decode cJ9_clear 7 = .ok (.putfield 93, 3) := dk_181 0 93 (dk_at dksJ9_clear_0 7 rfl rfl)
theorem dJ9_clear_10 : decode cJ9_clear 10 = .ok (.aload_n 0, 1) := dk_42 (dk_at dksJ9_clear_0 10 rfl rfl)
theorem dJ9_clear_11 : decode cJ9_clear 11 = .ok (.getfield 17, 3) := dk_180 0 17 (dk_at dksJ9_clear_0 11 rfl rfl)
theorem dJ9_clear_14 : decode cJ9_clear 14 = .ok (.astore_n 1, 1) := dk_76 (dk_at dksJ9_clear_0 14 rfl rfl)
theorem dJ9_clear_15 : decode cJ9_clear 15 = .ok (.iconst 0, 1) := dk_3 (dk_at dksJ9_clear_0 15 rfl rfl)
theorem dJ9_clear_16 : decode cJ9_clear 16 = .ok (.istore_n 2, 1) := dk_61 (dk_at dksJ9_clear_0 16 rfl rfl)
theorem dJ9_clear_17 : decode cJ9_clear 17 = .ok (.aload_n 0, 1) := dk_42 (dk_at dksJ9_clear_0 17 rfl rfl)
theorem dJ9_clear_18 : decode cJ9_clear 18 = .ok (.getfield 58, 3) := dk_180 0 58 (dk_at dksJ9_clear_0 18 rfl rfl)
theorem dJ9_clear_21 : decode cJ9_clear 21 = .ok (.istore_n 3, 1) := dk_62 (dk_at dksJ9_clear_0 21 rfl rfl)
theorem dJ9_clear_22 : decode cJ9_clear 22 = .ok (.iload_n 2, 1) := dk_28 (dk_at dksJ9_clear_0 22 rfl rfl)
theorem dJ9_clear_23 : decode cJ9_clear 23 = .ok (.iload_n 3, 1) := dk_29 (dk_at dksJ9_clear_0 23 rfl rfl)
theorem dJ9_clear_24 : decode cJ9_clear 24 = .ok (.if_icmp .ge 13, 3) := dk_162 0 13 (dk_at dksJ9_clear_1 0 rfl rfl)
theorem dJ9_clear_27 : decode cJ9_clear 27 = .ok (.aload_n 1, 1) := dk_43 (dk_at dksJ9_clear_1 3 rfl rfl)
theorem dJ9_clear_28 : decode cJ9_clear 28 = .ok (.iload_n 2, 1) := dk_28 (dk_at dksJ9_clear_1 4 rfl rfl)
theorem dJ9_clear_29 : decode cJ9_clear 29 = .ok (.aconst_null, 1) := dk_1 (dk_at dksJ9_clear_1 5 rfl rfl)
theorem dJ9_clear_30 : decode cJ9_clear 30 = .ok (.aastore, 1) := dk_83 (dk_at dksJ9_clear_1 6 rfl rfl)
theorem dJ9_clear_31 : decode cJ9_clear 31 = .ok (.iinc 2 1, 3) := dk_132 2 1 (dk_at dksJ9_clear_1 7 rfl rfl)
theorem dJ9_clear_34 : decode cJ9_clear 34 = .ok (.goto (-12), 3) := dk_167 255 244 (dk_at dksJ9_clear_1 10 rfl rfl)
theorem dJ9_clear_37 : decode cJ9_clear 37 = .ok (.aload_n 0, 1) := dk_42 (dk_at dksJ9_clear_1 13 rfl rfl)
theorem dJ9_clear_38 : decode cJ9_clear 38 = .ok (.iconst 0, 1) := dk_3 (dk_at dksJ9_clear_1 14 rfl rfl)
theorem dJ9_clear_39 : decode cJ9_clear 39 = .ok (.putfield 58, 3) := dk_181 0 58 (dk_at dksJ9_clear_1 15 rfl rfl)
theorem dJ9_clear_42 : decode cJ9_clear 42 = .ok (.return_, 1) := dk_177 (dk_at dksJ9_clear_1 18 rfl rfl)
abbrev cJ9_offer : ByteArray := prog_46_method_14_code
def yJ9_offer : MethodName := ⟨RJ9, "offer", "(Ljava/lang/Object;)Z"⟩
def dkwJ9_offer_2 : List UInt8 := [182, 0, 100, 42, 28, 4, 96, 181, 0, 58, 4, 172]
abbrev dktJ9_offer_2 : List UInt8 := dkwJ9_offer_2 ++ []
def dkwJ9_offer_1 : List UInt8 := [180, 0, 58, 61, 28, 42, 180, 0, 17, 190, 161, 0, 10, 42, 28, 4, 96, 182, 0, 96, 42, 28, 43]
abbrev dktJ9_offer_1 : List UInt8 := dkwJ9_offer_1 ++ dktJ9_offer_2
def dkwJ9_offer_0 : List UInt8 := [43, 199, 0, 11, 187, 0, 74, 89, 183, 0, 76, 191, 42, 89, 180, 0, 93, 4, 96, 181, 0, 93, 42]
abbrev dktJ9_offer_0 : List UInt8 := dkwJ9_offer_0 ++ dktJ9_offer_1
theorem dksJ9_offer_0 : cJ9_offer.data.toList.drop 0 = dktJ9_offer_0 := by decide +kernel
theorem dksJ9_offer_1 : cJ9_offer.data.toList.drop 23 = dktJ9_offer_1 := dk_seg dksJ9_offer_0 23 rfl rfl
theorem dksJ9_offer_2 : cJ9_offer.data.toList.drop 46 = dktJ9_offer_2 := dk_seg dksJ9_offer_1 23 rfl rfl
theorem dJ9_offer_0 : decode cJ9_offer 0 = .ok (.aload_n 1, 1) := dk_43 (dk_at dksJ9_offer_0 0 rfl rfl)
theorem dJ9_offer_1 : decode cJ9_offer 1 = .ok (.ifnonnull 11, 3) := dk_199 0 11 (dk_at dksJ9_offer_0 1 rfl rfl)
theorem dJ9_offer_4 : decode cJ9_offer 4 = .ok (.new 74, 3) := dk_187 0 74 (dk_at dksJ9_offer_0 4 rfl rfl)
theorem dJ9_offer_7 : decode cJ9_offer 7 = .ok (.dup, 1) := dk_89 (dk_at dksJ9_offer_0 7 rfl rfl)
theorem dJ9_offer_8 : decode cJ9_offer 8 = .ok (.invokespecial 76, 3) := dk_183 0 76 (dk_at dksJ9_offer_0 8 rfl rfl)
theorem dJ9_offer_11 : decode cJ9_offer 11 = .ok (.athrow, 1) := dk_191 (dk_at dksJ9_offer_0 11 rfl rfl)
theorem dJ9_offer_12 : decode cJ9_offer 12 = .ok (.aload_n 0, 1) := dk_42 (dk_at dksJ9_offer_0 12 rfl rfl)
theorem dJ9_offer_13 : decode cJ9_offer 13 = .ok (.dup, 1) := dk_89 (dk_at dksJ9_offer_0 13 rfl rfl)
theorem dJ9_offer_14 : decode cJ9_offer 14 = .ok (.getfield 93, 3) := dk_180 0 93 (dk_at dksJ9_offer_0 14 rfl rfl)
theorem dJ9_offer_17 : decode cJ9_offer 17 = .ok (.iconst 1, 1) := dk_4 (dk_at dksJ9_offer_0 17 rfl rfl)
theorem dJ9_offer_18 : decode cJ9_offer 18 = .ok (.iadd, 1) := dk_96 (dk_at dksJ9_offer_0 18 rfl rfl)
theorem dJ9_offer_19 : decode cJ9_offer 19 = .ok (.putfield 93, 3) := dk_181 0 93 (dk_at dksJ9_offer_0 19 rfl rfl)
theorem dJ9_offer_22 : decode cJ9_offer 22 = .ok (.aload_n 0, 1) := dk_42 (dk_at dksJ9_offer_0 22 rfl rfl)
theorem dJ9_offer_23 : decode cJ9_offer 23 = .ok (.getfield 58, 3) := dk_180 0 58 (dk_at dksJ9_offer_1 0 rfl rfl)
theorem dJ9_offer_26 : decode cJ9_offer 26 = .ok (.istore_n 2, 1) := dk_61 (dk_at dksJ9_offer_1 3 rfl rfl)
theorem dJ9_offer_27 : decode cJ9_offer 27 = .ok (.iload_n 2, 1) := dk_28 (dk_at dksJ9_offer_1 4 rfl rfl)
theorem dJ9_offer_28 : decode cJ9_offer 28 = .ok (.aload_n 0, 1) := dk_42 (dk_at dksJ9_offer_1 5 rfl rfl)
theorem dJ9_offer_29 : decode cJ9_offer 29 = .ok (.getfield 17, 3) := dk_180 0 17 (dk_at dksJ9_offer_1 6 rfl rfl)
theorem dJ9_offer_32 : decode cJ9_offer 32 = .ok (.arraylength, 1) := dk_190 (dk_at dksJ9_offer_1 9 rfl rfl)
theorem dJ9_offer_33 : decode cJ9_offer 33 = .ok (.if_icmp .lt 10, 3) := dk_161 0 10 (dk_at dksJ9_offer_1 10 rfl rfl)
theorem dJ9_offer_36 : decode cJ9_offer 36 = .ok (.aload_n 0, 1) := dk_42 (dk_at dksJ9_offer_1 13 rfl rfl)
theorem dJ9_offer_37 : decode cJ9_offer 37 = .ok (.iload_n 2, 1) := dk_28 (dk_at dksJ9_offer_1 14 rfl rfl)
theorem dJ9_offer_38 : decode cJ9_offer 38 = .ok (.iconst 1, 1) := dk_4 (dk_at dksJ9_offer_1 15 rfl rfl)
theorem dJ9_offer_39 : decode cJ9_offer 39 = .ok (.iadd, 1) := dk_96 (dk_at dksJ9_offer_1 16 rfl rfl)
theorem dJ9_offer_40 : decode cJ9_offer 40 = .ok (.invokevirtual 96, 3) := dk_182 0 96 (dk_at dksJ9_offer_1 17 rfl rfl)
theorem dJ9_offer_43 : decode cJ9_offer 43 = .ok (.aload_n 0, 1) := dk_42 (dk_at dksJ9_offer_1 20 rfl rfl)
theorem dJ9_offer_44 : decode cJ9_offer 44 = .ok (.iload_n 2, 1) := dk_28 (dk_at dksJ9_offer_1 21 rfl rfl)
theorem dJ9_offer_45 : decode cJ9_offer 45 = .ok (.aload_n 1, 1) := dk_43 (dk_at dksJ9_offer_1 22 rfl rfl)
theorem dJ9_offer_46 : decode cJ9_offer 46 = .ok (.invokevirtual 100, 3) := dk_182 0 100 (dk_at dksJ9_offer_2 0 rfl rfl)
theorem dJ9_offer_49 : decode cJ9_offer 49 = .ok (.aload_n 0, 1) := dk_42 (dk_at dksJ9_offer_2 3 rfl rfl)
theorem dJ9_offer_50 : decode cJ9_offer 50 = .ok (.iload_n 2, 1) := dk_28 (dk_at dksJ9_offer_2 4 rfl rfl)
theorem dJ9_offer_51 : decode cJ9_offer 51 = .ok (.iconst 1, 1) := dk_4 (dk_at dksJ9_offer_2 5 rfl rfl)
theorem dJ9_offer_52 : decode cJ9_offer 52 = .ok (.iadd, 1) := dk_96 (dk_at dksJ9_offer_2 6 rfl rfl)
theorem dJ9_offer_53 : decode cJ9_offer 53 = .ok (.putfield 58, 3) := dk_181 0 58 (dk_at dksJ9_offer_2 7 rfl rfl)
theorem dJ9_offer_56 : decode cJ9_offer 56 = .ok (.iconst 1, 1) := dk_4 (dk_at dksJ9_offer_2 10 rfl rfl)
theorem dJ9_offer_57 : decode cJ9_offer 57 = .ok (.ireturn, 1) := dk_172 (dk_at dksJ9_offer_2 11 rfl rfl)
abbrev cJ9_grow : ByteArray := prog_46_method_12_code
def yJ9_grow : MethodName := ⟨RJ9, "grow", "(I)V"⟩
def dkwJ9_grow_1 : List UInt8 := [122, 184, 0, 80, 62, 42, 42, 180, 0, 17, 29, 184, 0, 86, 181, 0, 17, 177]
abbrev dktJ9_grow_1 : List UInt8 := dkwJ9_grow_1 ++ []
def dkwJ9_grow_0 : List UInt8 := [42, 180, 0, 17, 190, 61, 28, 27, 28, 100, 28, 16, 64, 162, 0, 9, 28, 5, 96, 167, 0, 6, 28, 4]
abbrev dktJ9_grow_0 : List UInt8 := dkwJ9_grow_0 ++ dktJ9_grow_1
theorem dksJ9_grow_0 : cJ9_grow.data.toList.drop 0 = dktJ9_grow_0 := by decide +kernel
theorem dksJ9_grow_1 : cJ9_grow.data.toList.drop 24 = dktJ9_grow_1 := dk_seg dksJ9_grow_0 24 rfl rfl
theorem dJ9_grow_0 : decode cJ9_grow 0 = .ok (.aload_n 0, 1) := dk_42 (dk_at dksJ9_grow_0 0 rfl rfl)
theorem dJ9_grow_1 : decode cJ9_grow 1 = .ok (.getfield 17, 3) := dk_180 0 17 (dk_at dksJ9_grow_0 1 rfl rfl)
theorem dJ9_grow_4 : decode cJ9_grow 4 = .ok (.arraylength, 1) := dk_190 (dk_at dksJ9_grow_0 4 rfl rfl)
theorem dJ9_grow_5 : decode cJ9_grow 5 = .ok (.istore_n 2, 1) := dk_61 (dk_at dksJ9_grow_0 5 rfl rfl)
theorem dJ9_grow_6 : decode cJ9_grow 6 = .ok (.iload_n 2, 1) := dk_28 (dk_at dksJ9_grow_0 6 rfl rfl)
theorem dJ9_grow_7 : decode cJ9_grow 7 = .ok (.iload_n 1, 1) := dk_27 (dk_at dksJ9_grow_0 7 rfl rfl)
theorem dJ9_grow_8 : decode cJ9_grow 8 = .ok (.iload_n 2, 1) := dk_28 (dk_at dksJ9_grow_0 8 rfl rfl)
theorem dJ9_grow_9 : decode cJ9_grow 9 = .ok (.isub, 1) := dk_100 (dk_at dksJ9_grow_0 9 rfl rfl)
theorem dJ9_grow_10 : decode cJ9_grow 10 = .ok (.iload_n 2, 1) := dk_28 (dk_at dksJ9_grow_0 10 rfl rfl)
theorem dJ9_grow_11 : decode cJ9_grow 11 = .ok (.bipush 64, 2) := dk_16 64 (dk_at dksJ9_grow_0 11 rfl rfl)
theorem dJ9_grow_13 : decode cJ9_grow 13 = .ok (.if_icmp .ge 9, 3) := dk_162 0 9 (dk_at dksJ9_grow_0 13 rfl rfl)
theorem dJ9_grow_16 : decode cJ9_grow 16 = .ok (.iload_n 2, 1) := dk_28 (dk_at dksJ9_grow_0 16 rfl rfl)
theorem dJ9_grow_17 : decode cJ9_grow 17 = .ok (.iconst 2, 1) := dk_5 (dk_at dksJ9_grow_0 17 rfl rfl)
theorem dJ9_grow_18 : decode cJ9_grow 18 = .ok (.iadd, 1) := dk_96 (dk_at dksJ9_grow_0 18 rfl rfl)
theorem dJ9_grow_19 : decode cJ9_grow 19 = .ok (.goto 6, 3) := dk_167 0 6 (dk_at dksJ9_grow_0 19 rfl rfl)
theorem dJ9_grow_22 : decode cJ9_grow 22 = .ok (.iload_n 2, 1) := dk_28 (dk_at dksJ9_grow_0 22 rfl rfl)
theorem dJ9_grow_23 : decode cJ9_grow 23 = .ok (.iconst 1, 1) := dk_4 (dk_at dksJ9_grow_0 23 rfl rfl)
theorem dJ9_grow_24 : decode cJ9_grow 24 = .ok (.ishr, 1) := dk_122 (dk_at dksJ9_grow_1 0 rfl rfl)
theorem dJ9_grow_25 : decode cJ9_grow 25 = .ok (.invokestatic 80, 3) := dk_184 0 80 (dk_at dksJ9_grow_1 1 rfl rfl)
theorem dJ9_grow_28 : decode cJ9_grow 28 = .ok (.istore_n 3, 1) := dk_62 (dk_at dksJ9_grow_1 4 rfl rfl)
theorem dJ9_grow_29 : decode cJ9_grow 29 = .ok (.aload_n 0, 1) := dk_42 (dk_at dksJ9_grow_1 5 rfl rfl)
theorem dJ9_grow_30 : decode cJ9_grow 30 = .ok (.aload_n 0, 1) := dk_42 (dk_at dksJ9_grow_1 6 rfl rfl)
theorem dJ9_grow_31 : decode cJ9_grow 31 = .ok (.getfield 17, 3) := dk_180 0 17 (dk_at dksJ9_grow_1 7 rfl rfl)
theorem dJ9_grow_34 : decode cJ9_grow 34 = .ok (.iload_n 3, 1) := dk_29 (dk_at dksJ9_grow_1 10 rfl rfl)
theorem dJ9_grow_35 : decode cJ9_grow 35 = .ok (.invokestatic 86, 3) := dk_184 0 86 (dk_at dksJ9_grow_1 11 rfl rfl)
theorem dJ9_grow_38 : decode cJ9_grow 38 = .ok (.putfield 17, 3) := dk_181 0 17 (dk_at dksJ9_grow_1 14 rfl rfl)
theorem dJ9_grow_41 : decode cJ9_grow 41 = .ok (.return_, 1) := dk_177 (dk_at dksJ9_grow_1 17 rfl rfl)
abbrev cJ9_siftUp : ByteArray := prog_46_method_27_code
def yJ9_siftUp : MethodName := ⟨RJ9, "siftUp", "(ILjava/lang/Object;)V"⟩
def dkwJ9_siftUp_1 : List UInt8 := [44, 42, 180, 0, 17, 184, 0, 140, 177]
abbrev dktJ9_siftUp_1 : List UInt8 := dkwJ9_siftUp_1 ++ []
def dkwJ9_siftUp_0 : List UInt8 := [42, 180, 0, 21, 198, 0, 19, 27, 44, 42, 180, 0, 17, 42, 180, 0, 21, 184, 0, 136, 167, 0, 12, 27]
abbrev dktJ9_siftUp_0 : List UInt8 := dkwJ9_siftUp_0 ++ dktJ9_siftUp_1
theorem dksJ9_siftUp_0 : cJ9_siftUp.data.toList.drop 0 = dktJ9_siftUp_0 := by decide +kernel
theorem dksJ9_siftUp_1 : cJ9_siftUp.data.toList.drop 24 = dktJ9_siftUp_1 := dk_seg dksJ9_siftUp_0 24 rfl rfl
theorem dJ9_siftUp_0 : decode cJ9_siftUp 0 = .ok (.aload_n 0, 1) := dk_42 (dk_at dksJ9_siftUp_0 0 rfl rfl)
theorem dJ9_siftUp_1 : decode cJ9_siftUp 1 = .ok (.getfield 21, 3) := dk_180 0 21 (dk_at dksJ9_siftUp_0 1 rfl rfl)
theorem dJ9_siftUp_4 : decode cJ9_siftUp 4 = .ok (.ifnull 19, 3) := dk_198 0 19 (dk_at dksJ9_siftUp_0 4 rfl rfl)
theorem dJ9_siftUp_7 : decode cJ9_siftUp 7 = .ok (.iload_n 1, 1) := dk_27 (dk_at dksJ9_siftUp_0 7 rfl rfl)
theorem dJ9_siftUp_8 : decode cJ9_siftUp 8 = .ok (.aload_n 2, 1) := dk_44 (dk_at dksJ9_siftUp_0 8 rfl rfl)
theorem dJ9_siftUp_9 : decode cJ9_siftUp 9 = .ok (.aload_n 0, 1) := dk_42 (dk_at dksJ9_siftUp_0 9 rfl rfl)
theorem dJ9_siftUp_10 : decode cJ9_siftUp 10 = .ok (.getfield 17, 3) := dk_180 0 17 (dk_at dksJ9_siftUp_0 10 rfl rfl)
theorem dJ9_siftUp_13 : decode cJ9_siftUp 13 = .ok (.aload_n 0, 1) := dk_42 (dk_at dksJ9_siftUp_0 13 rfl rfl)
theorem dJ9_siftUp_14 : decode cJ9_siftUp 14 = .ok (.getfield 21, 3) := dk_180 0 21 (dk_at dksJ9_siftUp_0 14 rfl rfl)
theorem dJ9_siftUp_17 : decode cJ9_siftUp 17 = .ok (.invokestatic 136, 3) := dk_184 0 136 (dk_at dksJ9_siftUp_0 17 rfl rfl)
theorem dJ9_siftUp_20 : decode cJ9_siftUp 20 = .ok (.goto 12, 3) := dk_167 0 12 (dk_at dksJ9_siftUp_0 20 rfl rfl)
theorem dJ9_siftUp_23 : decode cJ9_siftUp 23 = .ok (.iload_n 1, 1) := dk_27 (dk_at dksJ9_siftUp_0 23 rfl rfl)
theorem dJ9_siftUp_24 : decode cJ9_siftUp 24 = .ok (.aload_n 2, 1) := dk_44 (dk_at dksJ9_siftUp_1 0 rfl rfl)
theorem dJ9_siftUp_25 : decode cJ9_siftUp 25 = .ok (.aload_n 0, 1) := dk_42 (dk_at dksJ9_siftUp_1 1 rfl rfl)
theorem dJ9_siftUp_26 : decode cJ9_siftUp 26 = .ok (.getfield 17, 3) := dk_180 0 17 (dk_at dksJ9_siftUp_1 2 rfl rfl)
theorem dJ9_siftUp_29 : decode cJ9_siftUp 29 = .ok (.invokestatic 140, 3) := dk_184 0 140 (dk_at dksJ9_siftUp_1 5 rfl rfl)
theorem dJ9_siftUp_32 : decode cJ9_siftUp 32 = .ok (.return_, 1) := dk_177 (dk_at dksJ9_siftUp_1 8 rfl rfl)
abbrev cJ9_siftUpUsingComparator : ByteArray := prog_46_method_29_code
def yJ9_siftUpUsingComparator : MethodName := ⟨RJ9, "siftUpUsingComparator", "(ILjava/lang/Object;[Ljava/lang/Object;Ljava/util/Comparator;)V"⟩
def dkwJ9_siftUpUsingComparator_2 : List UInt8 := [43, 83, 177]
abbrev dktJ9_siftUpUsingComparator_2 : List UInt8 := dkwJ9_siftUpUsingComparator_2 ++ []
def dkwJ9_siftUpUsingComparator_1 : List UInt8 := [185, 0, 149, 3, 0, 155, 0, 6, 167, 0, 14, 44, 26, 25, 5, 83, 21, 4, 59, 167, 255, 216, 44, 26]
abbrev dktJ9_siftUpUsingComparator_1 : List UInt8 := dkwJ9_siftUpUsingComparator_1 ++ dktJ9_siftUpUsingComparator_2
def dkwJ9_siftUpUsingComparator_0 : List UInt8 := [26, 158, 0, 42, 26, 4, 100, 4, 124, 54, 4, 44, 21, 4, 50, 58, 5, 45, 43, 25, 5]
abbrev dktJ9_siftUpUsingComparator_0 : List UInt8 := dkwJ9_siftUpUsingComparator_0 ++ dktJ9_siftUpUsingComparator_1
theorem dksJ9_siftUpUsingComparator_0 : cJ9_siftUpUsingComparator.data.toList.drop 0 = dktJ9_siftUpUsingComparator_0 := by decide +kernel
theorem dksJ9_siftUpUsingComparator_1 : cJ9_siftUpUsingComparator.data.toList.drop 21 = dktJ9_siftUpUsingComparator_1 := dk_seg dksJ9_siftUpUsingComparator_0 21 rfl rfl
theorem dksJ9_siftUpUsingComparator_2 : cJ9_siftUpUsingComparator.data.toList.drop 45 = dktJ9_siftUpUsingComparator_2 := dk_seg dksJ9_siftUpUsingComparator_1 24 rfl rfl
theorem dJ9_siftUpUsingComparator_0 : decode cJ9_siftUpUsingComparator 0 = .ok (.iload_n 0, 1) := dk_26 (dk_at dksJ9_siftUpUsingComparator_0 0 rfl rfl)
theorem dJ9_siftUpUsingComparator_1 : decode cJ9_siftUpUsingComparator 1 = .ok (.ifCond .le 42, 3) := dk_158 0 42 (dk_at dksJ9_siftUpUsingComparator_0 1 rfl rfl)
theorem dJ9_siftUpUsingComparator_4 : decode cJ9_siftUpUsingComparator 4 = .ok (.iload_n 0, 1) := dk_26 (dk_at dksJ9_siftUpUsingComparator_0 4 rfl rfl)
theorem dJ9_siftUpUsingComparator_5 : decode cJ9_siftUpUsingComparator 5 = .ok (.iconst 1, 1) := dk_4 (dk_at dksJ9_siftUpUsingComparator_0 5 rfl rfl)
theorem dJ9_siftUpUsingComparator_6 : decode cJ9_siftUpUsingComparator 6 = .ok (.isub, 1) := dk_100 (dk_at dksJ9_siftUpUsingComparator_0 6 rfl rfl)
theorem dJ9_siftUpUsingComparator_7 : decode cJ9_siftUpUsingComparator 7 = .ok (.iconst 1, 1) := dk_4 (dk_at dksJ9_siftUpUsingComparator_0 7 rfl rfl)
theorem dJ9_siftUpUsingComparator_8 : decode cJ9_siftUpUsingComparator 8 = .ok (.iushr, 1) := dk_124 (dk_at dksJ9_siftUpUsingComparator_0 8 rfl rfl)
theorem dJ9_siftUpUsingComparator_9 : decode cJ9_siftUpUsingComparator 9 = .ok (.istore 4, 2) := dk_54 4 (dk_at dksJ9_siftUpUsingComparator_0 9 rfl rfl)
theorem dJ9_siftUpUsingComparator_11 : decode cJ9_siftUpUsingComparator 11 = .ok (.aload_n 2, 1) := dk_44 (dk_at dksJ9_siftUpUsingComparator_0 11 rfl rfl)
theorem dJ9_siftUpUsingComparator_12 : decode cJ9_siftUpUsingComparator 12 = .ok (.iload 4, 2) := dk_21 4 (dk_at dksJ9_siftUpUsingComparator_0 12 rfl rfl)
theorem dJ9_siftUpUsingComparator_14 : decode cJ9_siftUpUsingComparator 14 = .ok (.aaload, 1) := dk_50 (dk_at dksJ9_siftUpUsingComparator_0 14 rfl rfl)
theorem dJ9_siftUpUsingComparator_15 : decode cJ9_siftUpUsingComparator 15 = .ok (.astore 5, 2) := dk_58 5 (dk_at dksJ9_siftUpUsingComparator_0 15 rfl rfl)
theorem dJ9_siftUpUsingComparator_17 : decode cJ9_siftUpUsingComparator 17 = .ok (.aload_n 3, 1) := dk_45 (dk_at dksJ9_siftUpUsingComparator_0 17 rfl rfl)
theorem dJ9_siftUpUsingComparator_18 : decode cJ9_siftUpUsingComparator 18 = .ok (.aload_n 1, 1) := dk_43 (dk_at dksJ9_siftUpUsingComparator_0 18 rfl rfl)
theorem dJ9_siftUpUsingComparator_19 : decode cJ9_siftUpUsingComparator 19 = .ok (.aload 5, 2) := dk_25 5 (dk_at dksJ9_siftUpUsingComparator_0 19 rfl rfl)
theorem dJ9_siftUpUsingComparator_21 : decode cJ9_siftUpUsingComparator 21 = .ok (.invokeinterface 149 3, 5) := by decide +kernel
theorem dJ9_siftUpUsingComparator_26 : decode cJ9_siftUpUsingComparator 26 = .ok (.ifCond .lt 6, 3) := dk_155 0 6 (dk_at dksJ9_siftUpUsingComparator_1 5 rfl rfl)
theorem dJ9_siftUpUsingComparator_29 : decode cJ9_siftUpUsingComparator 29 = .ok (.goto 14, 3) := dk_167 0 14 (dk_at dksJ9_siftUpUsingComparator_1 8 rfl rfl)
theorem dJ9_siftUpUsingComparator_32 : decode cJ9_siftUpUsingComparator 32 = .ok (.aload_n 2, 1) := dk_44 (dk_at dksJ9_siftUpUsingComparator_1 11 rfl rfl)
theorem dJ9_siftUpUsingComparator_33 : decode cJ9_siftUpUsingComparator 33 = .ok (.iload_n 0, 1) := dk_26 (dk_at dksJ9_siftUpUsingComparator_1 12 rfl rfl)
theorem dJ9_siftUpUsingComparator_34 : decode cJ9_siftUpUsingComparator 34 = .ok (.aload 5, 2) := dk_25 5 (dk_at dksJ9_siftUpUsingComparator_1 13 rfl rfl)
theorem dJ9_siftUpUsingComparator_36 : decode cJ9_siftUpUsingComparator 36 = .ok (.aastore, 1) := dk_83 (dk_at dksJ9_siftUpUsingComparator_1 15 rfl rfl)
theorem dJ9_siftUpUsingComparator_37 : decode cJ9_siftUpUsingComparator 37 = .ok (.iload 4, 2) := dk_21 4 (dk_at dksJ9_siftUpUsingComparator_1 16 rfl rfl)
theorem dJ9_siftUpUsingComparator_39 : decode cJ9_siftUpUsingComparator 39 = .ok (.istore_n 0, 1) := dk_59 (dk_at dksJ9_siftUpUsingComparator_1 18 rfl rfl)
theorem dJ9_siftUpUsingComparator_40 : decode cJ9_siftUpUsingComparator 40 = .ok (.goto (-40), 3) := dk_167 255 216 (dk_at dksJ9_siftUpUsingComparator_1 19 rfl rfl)
theorem dJ9_siftUpUsingComparator_43 : decode cJ9_siftUpUsingComparator 43 = .ok (.aload_n 2, 1) := dk_44 (dk_at dksJ9_siftUpUsingComparator_1 22 rfl rfl)
theorem dJ9_siftUpUsingComparator_44 : decode cJ9_siftUpUsingComparator 44 = .ok (.iload_n 0, 1) := dk_26 (dk_at dksJ9_siftUpUsingComparator_1 23 rfl rfl)
theorem dJ9_siftUpUsingComparator_45 : decode cJ9_siftUpUsingComparator 45 = .ok (.aload_n 1, 1) := dk_43 (dk_at dksJ9_siftUpUsingComparator_2 0 rfl rfl)
theorem dJ9_siftUpUsingComparator_46 : decode cJ9_siftUpUsingComparator 46 = .ok (.aastore, 1) := dk_83 (dk_at dksJ9_siftUpUsingComparator_2 1 rfl rfl)
theorem dJ9_siftUpUsingComparator_47 : decode cJ9_siftUpUsingComparator 47 = .ok (.return_, 1) := dk_177 (dk_at dksJ9_siftUpUsingComparator_2 2 rfl rfl)
abbrev cJ9_siftUpComparable : ByteArray := prog_46_method_28_code
def yJ9_siftUpComparable : MethodName := ⟨RJ9, "siftUpComparable", "(ILjava/lang/Object;[Ljava/lang/Object;)V"⟩
def dkwJ9_siftUpComparable_2 : List UInt8 := [44, 26, 45, 83, 177]
abbrev dktJ9_siftUpComparable_2 : List UInt8 := dkwJ9_siftUpComparable_2 ++ []
def dkwJ9_siftUpComparable_1 : List UInt8 := [25, 5, 185, 0, 146, 2, 0, 155, 0, 6, 167, 0, 14, 44, 26, 25, 5, 83, 21, 4, 59, 167, 255, 217]
abbrev dktJ9_siftUpComparable_1 : List UInt8 := dkwJ9_siftUpComparable_1 ++ dktJ9_siftUpComparable_2
def dkwJ9_siftUpComparable_0 : List UInt8 := [43, 192, 0, 144, 78, 26, 158, 0, 41, 26, 4, 100, 4, 124, 54, 4, 44, 21, 4, 50, 58, 5, 45]
abbrev dktJ9_siftUpComparable_0 : List UInt8 := dkwJ9_siftUpComparable_0 ++ dktJ9_siftUpComparable_1
theorem dksJ9_siftUpComparable_0 : cJ9_siftUpComparable.data.toList.drop 0 = dktJ9_siftUpComparable_0 := by decide +kernel
theorem dksJ9_siftUpComparable_1 : cJ9_siftUpComparable.data.toList.drop 23 = dktJ9_siftUpComparable_1 := dk_seg dksJ9_siftUpComparable_0 23 rfl rfl
theorem dksJ9_siftUpComparable_2 : cJ9_siftUpComparable.data.toList.drop 47 = dktJ9_siftUpComparable_2 := dk_seg dksJ9_siftUpComparable_1 24 rfl rfl
theorem dJ9_siftUpComparable_0 : decode cJ9_siftUpComparable 0 = .ok (.aload_n 1, 1) := dk_43 (dk_at dksJ9_siftUpComparable_0 0 rfl rfl)
theorem dJ9_siftUpComparable_1 : decode cJ9_siftUpComparable 1 = .ok (.checkcast 144, 3) := dk_192 0 144 (dk_at dksJ9_siftUpComparable_0 1 rfl rfl)
theorem dJ9_siftUpComparable_4 : decode cJ9_siftUpComparable 4 = .ok (.astore_n 3, 1) := dk_78 (dk_at dksJ9_siftUpComparable_0 4 rfl rfl)
theorem dJ9_siftUpComparable_5 : decode cJ9_siftUpComparable 5 = .ok (.iload_n 0, 1) := dk_26 (dk_at dksJ9_siftUpComparable_0 5 rfl rfl)
theorem dJ9_siftUpComparable_6 : decode cJ9_siftUpComparable 6 = .ok (.ifCond .le 41, 3) := dk_158 0 41 (dk_at dksJ9_siftUpComparable_0 6 rfl rfl)
theorem dJ9_siftUpComparable_9 : decode cJ9_siftUpComparable 9 = .ok (.iload_n 0, 1) := dk_26 (dk_at dksJ9_siftUpComparable_0 9 rfl rfl)
theorem dJ9_siftUpComparable_10 : decode cJ9_siftUpComparable 10 = .ok (.iconst 1, 1) := dk_4 (dk_at dksJ9_siftUpComparable_0 10 rfl rfl)
theorem dJ9_siftUpComparable_11 : decode cJ9_siftUpComparable 11 = .ok (.isub, 1) := dk_100 (dk_at dksJ9_siftUpComparable_0 11 rfl rfl)
theorem dJ9_siftUpComparable_12 : decode cJ9_siftUpComparable 12 = .ok (.iconst 1, 1) := dk_4 (dk_at dksJ9_siftUpComparable_0 12 rfl rfl)
theorem dJ9_siftUpComparable_13 : decode cJ9_siftUpComparable 13 = .ok (.iushr, 1) := dk_124 (dk_at dksJ9_siftUpComparable_0 13 rfl rfl)
theorem dJ9_siftUpComparable_14 : decode cJ9_siftUpComparable 14 = .ok (.istore 4, 2) := dk_54 4 (dk_at dksJ9_siftUpComparable_0 14 rfl rfl)
theorem dJ9_siftUpComparable_16 : decode cJ9_siftUpComparable 16 = .ok (.aload_n 2, 1) := dk_44 (dk_at dksJ9_siftUpComparable_0 16 rfl rfl)
theorem dJ9_siftUpComparable_17 : decode cJ9_siftUpComparable 17 = .ok (.iload 4, 2) := dk_21 4 (dk_at dksJ9_siftUpComparable_0 17 rfl rfl)
theorem dJ9_siftUpComparable_19 : decode cJ9_siftUpComparable 19 = .ok (.aaload, 1) := dk_50 (dk_at dksJ9_siftUpComparable_0 19 rfl rfl)
theorem dJ9_siftUpComparable_20 : decode cJ9_siftUpComparable 20 = .ok (.astore 5, 2) := dk_58 5 (dk_at dksJ9_siftUpComparable_0 20 rfl rfl)
theorem dJ9_siftUpComparable_22 : decode cJ9_siftUpComparable 22 = .ok (.aload_n 3, 1) := dk_45 (dk_at dksJ9_siftUpComparable_0 22 rfl rfl)
theorem dJ9_siftUpComparable_23 : decode cJ9_siftUpComparable 23 = .ok (.aload 5, 2) := dk_25 5 (dk_at dksJ9_siftUpComparable_1 0 rfl rfl)
theorem dJ9_siftUpComparable_25 : decode cJ9_siftUpComparable 25 = .ok (.invokeinterface 146 2, 5) := by decide +kernel
theorem dJ9_siftUpComparable_30 : decode cJ9_siftUpComparable 30 = .ok (.ifCond .lt 6, 3) := dk_155 0 6 (dk_at dksJ9_siftUpComparable_1 7 rfl rfl)
theorem dJ9_siftUpComparable_33 : decode cJ9_siftUpComparable 33 = .ok (.goto 14, 3) := dk_167 0 14 (dk_at dksJ9_siftUpComparable_1 10 rfl rfl)
theorem dJ9_siftUpComparable_36 : decode cJ9_siftUpComparable 36 = .ok (.aload_n 2, 1) := dk_44 (dk_at dksJ9_siftUpComparable_1 13 rfl rfl)
theorem dJ9_siftUpComparable_37 : decode cJ9_siftUpComparable 37 = .ok (.iload_n 0, 1) := dk_26 (dk_at dksJ9_siftUpComparable_1 14 rfl rfl)
theorem dJ9_siftUpComparable_38 : decode cJ9_siftUpComparable 38 = .ok (.aload 5, 2) := dk_25 5 (dk_at dksJ9_siftUpComparable_1 15 rfl rfl)
theorem dJ9_siftUpComparable_40 : decode cJ9_siftUpComparable 40 = .ok (.aastore, 1) := dk_83 (dk_at dksJ9_siftUpComparable_1 17 rfl rfl)
theorem dJ9_siftUpComparable_41 : decode cJ9_siftUpComparable 41 = .ok (.iload 4, 2) := dk_21 4 (dk_at dksJ9_siftUpComparable_1 18 rfl rfl)
theorem dJ9_siftUpComparable_43 : decode cJ9_siftUpComparable 43 = .ok (.istore_n 0, 1) := dk_59 (dk_at dksJ9_siftUpComparable_1 20 rfl rfl)
theorem dJ9_siftUpComparable_44 : decode cJ9_siftUpComparable 44 = .ok (.goto (-39), 3) := dk_167 255 217 (dk_at dksJ9_siftUpComparable_1 21 rfl rfl)
theorem dJ9_siftUpComparable_47 : decode cJ9_siftUpComparable 47 = .ok (.aload_n 2, 1) := dk_44 (dk_at dksJ9_siftUpComparable_2 0 rfl rfl)
theorem dJ9_siftUpComparable_48 : decode cJ9_siftUpComparable 48 = .ok (.iload_n 0, 1) := dk_26 (dk_at dksJ9_siftUpComparable_2 1 rfl rfl)
theorem dJ9_siftUpComparable_49 : decode cJ9_siftUpComparable 49 = .ok (.aload_n 3, 1) := dk_45 (dk_at dksJ9_siftUpComparable_2 2 rfl rfl)
theorem dJ9_siftUpComparable_50 : decode cJ9_siftUpComparable 50 = .ok (.aastore, 1) := dk_83 (dk_at dksJ9_siftUpComparable_2 3 rfl rfl)
theorem dJ9_siftUpComparable_51 : decode cJ9_siftUpComparable 51 = .ok (.return_, 1) := dk_177 (dk_at dksJ9_siftUpComparable_2 4 rfl rfl)
abbrev cJ9_poll : ByteArray := prog_46_method_25_code
def yJ9_poll : MethodName := ⟨RJ9, "poll", "()Ljava/lang/Object;"⟩
def dkwJ9_poll_3 : List UInt8 := [43, 29, 25, 5, 184, 0, 129, 44, 176]
abbrev dktJ9_poll_3 : List UInt8 := dkwJ9_poll_3 ++ []
def dkwJ9_poll_2 : List UInt8 := [42, 180, 0, 21, 89, 58, 5, 199, 0, 14, 3, 25, 4, 43, 29, 184, 0, 125, 167, 0, 13, 3, 25, 4]
abbrev dktJ9_poll_2 : List UInt8 := dkwJ9_poll_2 ++ dktJ9_poll_3
def dkwJ9_poll_1 : List UInt8 := [42, 89, 180, 0, 58, 4, 100, 90, 181, 0, 58, 89, 62, 50, 58, 4, 43, 29, 1, 83, 29, 158, 0, 34]
abbrev dktJ9_poll_1 : List UInt8 := dkwJ9_poll_1 ++ dktJ9_poll_2
def dkwJ9_poll_0 : List UInt8 := [42, 180, 0, 17, 89, 76, 3, 50, 89, 77, 198, 0, 69, 42, 89, 180, 0, 93, 4, 96, 181, 0, 93, 43]
abbrev dktJ9_poll_0 : List UInt8 := dkwJ9_poll_0 ++ dktJ9_poll_1
theorem dksJ9_poll_0 : cJ9_poll.data.toList.drop 0 = dktJ9_poll_0 := by decide +kernel
theorem dksJ9_poll_1 : cJ9_poll.data.toList.drop 24 = dktJ9_poll_1 := dk_seg dksJ9_poll_0 24 rfl rfl
theorem dksJ9_poll_2 : cJ9_poll.data.toList.drop 48 = dktJ9_poll_2 := dk_seg dksJ9_poll_1 24 rfl rfl
theorem dksJ9_poll_3 : cJ9_poll.data.toList.drop 72 = dktJ9_poll_3 := dk_seg dksJ9_poll_2 24 rfl rfl
theorem dJ9_poll_0 : decode cJ9_poll 0 = .ok (.aload_n 0, 1) := dk_42 (dk_at dksJ9_poll_0 0 rfl rfl)
theorem dJ9_poll_1 : decode cJ9_poll 1 = .ok (.getfield 17, 3) := dk_180 0 17 (dk_at dksJ9_poll_0 1 rfl rfl)
theorem dJ9_poll_4 : decode cJ9_poll 4 = .ok (.dup, 1) := dk_89 (dk_at dksJ9_poll_0 4 rfl rfl)
theorem dJ9_poll_5 : decode cJ9_poll 5 = .ok (.astore_n 1, 1) := dk_76 (dk_at dksJ9_poll_0 5 rfl rfl)
theorem dJ9_poll_6 : decode cJ9_poll 6 = .ok (.iconst 0, 1) := dk_3 (dk_at dksJ9_poll_0 6 rfl rfl)
theorem dJ9_poll_7 : decode cJ9_poll 7 = .ok (.aaload, 1) := dk_50 (dk_at dksJ9_poll_0 7 rfl rfl)
theorem dJ9_poll_8 : decode cJ9_poll 8 = .ok (.dup, 1) := dk_89 (dk_at dksJ9_poll_0 8 rfl rfl)
theorem dJ9_poll_9 : decode cJ9_poll 9 = .ok (.astore_n 2, 1) := dk_77 (dk_at dksJ9_poll_0 9 rfl rfl)
theorem dJ9_poll_10 : decode cJ9_poll 10 = .ok (.ifnull 69, 3) := dk_198 0 69 (dk_at dksJ9_poll_0 10 rfl rfl)
theorem dJ9_poll_13 : decode cJ9_poll 13 = .ok (.aload_n 0, 1) := dk_42 (dk_at dksJ9_poll_0 13 rfl rfl)
theorem dJ9_poll_14 : decode cJ9_poll 14 = .ok (.dup, 1) := dk_89 (dk_at dksJ9_poll_0 14 rfl rfl)
theorem dJ9_poll_15 : decode cJ9_poll 15 = .ok (.getfield 93, 3) := dk_180 0 93 (dk_at dksJ9_poll_0 15 rfl rfl)
theorem dJ9_poll_18 : decode cJ9_poll 18 = .ok (.iconst 1, 1) := dk_4 (dk_at dksJ9_poll_0 18 rfl rfl)
theorem dJ9_poll_19 : decode cJ9_poll 19 = .ok (.iadd, 1) := dk_96 (dk_at dksJ9_poll_0 19 rfl rfl)
theorem dJ9_poll_20 : decode cJ9_poll 20 = .ok (.putfield 93, 3) := dk_181 0 93 (dk_at dksJ9_poll_0 20 rfl rfl)
theorem dJ9_poll_23 : decode cJ9_poll 23 = .ok (.aload_n 1, 1) := dk_43 (dk_at dksJ9_poll_0 23 rfl rfl)
theorem dJ9_poll_24 : decode cJ9_poll 24 = .ok (.aload_n 0, 1) := dk_42 (dk_at dksJ9_poll_1 0 rfl rfl)
theorem dJ9_poll_25 : decode cJ9_poll 25 = .ok (.dup, 1) := dk_89 (dk_at dksJ9_poll_1 1 rfl rfl)
theorem dJ9_poll_26 : decode cJ9_poll 26 = .ok (.getfield 58, 3) := dk_180 0 58 (dk_at dksJ9_poll_1 2 rfl rfl)
theorem dJ9_poll_29 : decode cJ9_poll 29 = .ok (.iconst 1, 1) := dk_4 (dk_at dksJ9_poll_1 5 rfl rfl)
theorem dJ9_poll_30 : decode cJ9_poll 30 = .ok (.isub, 1) := dk_100 (dk_at dksJ9_poll_1 6 rfl rfl)
theorem dJ9_poll_31 : decode cJ9_poll 31 = .ok (.dup_x1, 1) := dk_90 (dk_at dksJ9_poll_1 7 rfl rfl)
theorem dJ9_poll_32 : decode cJ9_poll 32 = .ok (.putfield 58, 3) := dk_181 0 58 (dk_at dksJ9_poll_1 8 rfl rfl)
theorem dJ9_poll_35 : decode cJ9_poll 35 = .ok (.dup, 1) := dk_89 (dk_at dksJ9_poll_1 11 rfl rfl)
theorem dJ9_poll_36 : decode cJ9_poll 36 = .ok (.istore_n 3, 1) := dk_62 (dk_at dksJ9_poll_1 12 rfl rfl)
theorem dJ9_poll_37 : decode cJ9_poll 37 = .ok (.aaload, 1) := dk_50 (dk_at dksJ9_poll_1 13 rfl rfl)
theorem dJ9_poll_38 : decode cJ9_poll 38 = .ok (.astore 4, 2) := dk_58 4 (dk_at dksJ9_poll_1 14 rfl rfl)
theorem dJ9_poll_40 : decode cJ9_poll 40 = .ok (.aload_n 1, 1) := dk_43 (dk_at dksJ9_poll_1 16 rfl rfl)
theorem dJ9_poll_41 : decode cJ9_poll 41 = .ok (.iload_n 3, 1) := dk_29 (dk_at dksJ9_poll_1 17 rfl rfl)
theorem dJ9_poll_42 : decode cJ9_poll 42 = .ok (.aconst_null, 1) := dk_1 (dk_at dksJ9_poll_1 18 rfl rfl)
theorem dJ9_poll_43 : decode cJ9_poll 43 = .ok (.aastore, 1) := dk_83 (dk_at dksJ9_poll_1 19 rfl rfl)
theorem dJ9_poll_44 : decode cJ9_poll 44 = .ok (.iload_n 3, 1) := dk_29 (dk_at dksJ9_poll_1 20 rfl rfl)
theorem dJ9_poll_45 : decode cJ9_poll 45 = .ok (.ifCond .le 34, 3) := dk_158 0 34 (dk_at dksJ9_poll_1 21 rfl rfl)
theorem dJ9_poll_48 : decode cJ9_poll 48 = .ok (.aload_n 0, 1) := dk_42 (dk_at dksJ9_poll_2 0 rfl rfl)
theorem dJ9_poll_49 : decode cJ9_poll 49 = .ok (.getfield 21, 3) := dk_180 0 21 (dk_at dksJ9_poll_2 1 rfl rfl)
theorem dJ9_poll_52 : decode cJ9_poll 52 = .ok (.dup, 1) := dk_89 (dk_at dksJ9_poll_2 4 rfl rfl)
theorem dJ9_poll_53 : decode cJ9_poll 53 = .ok (.astore 5, 2) := dk_58 5 (dk_at dksJ9_poll_2 5 rfl rfl)
theorem dJ9_poll_55 : decode cJ9_poll 55 = .ok (.ifnonnull 14, 3) := dk_199 0 14 (dk_at dksJ9_poll_2 7 rfl rfl)
theorem dJ9_poll_58 : decode cJ9_poll 58 = .ok (.iconst 0, 1) := dk_3 (dk_at dksJ9_poll_2 10 rfl rfl)
theorem dJ9_poll_59 : decode cJ9_poll 59 = .ok (.aload 4, 2) := dk_25 4 (dk_at dksJ9_poll_2 11 rfl rfl)
theorem dJ9_poll_61 : decode cJ9_poll 61 = .ok (.aload_n 1, 1) := dk_43 (dk_at dksJ9_poll_2 13 rfl rfl)
theorem dJ9_poll_62 : decode cJ9_poll 62 = .ok (.iload_n 3, 1) := dk_29 (dk_at dksJ9_poll_2 14 rfl rfl)
theorem dJ9_poll_63 : decode cJ9_poll 63 = .ok (.invokestatic 125, 3) := dk_184 0 125 (dk_at dksJ9_poll_2 15 rfl rfl)
theorem dJ9_poll_66 : decode cJ9_poll 66 = .ok (.goto 13, 3) := dk_167 0 13 (dk_at dksJ9_poll_2 18 rfl rfl)
theorem dJ9_poll_69 : decode cJ9_poll 69 = .ok (.iconst 0, 1) := dk_3 (dk_at dksJ9_poll_2 21 rfl rfl)
theorem dJ9_poll_70 : decode cJ9_poll 70 = .ok (.aload 4, 2) := dk_25 4 (dk_at dksJ9_poll_2 22 rfl rfl)
theorem dJ9_poll_72 : decode cJ9_poll 72 = .ok (.aload_n 1, 1) := dk_43 (dk_at dksJ9_poll_3 0 rfl rfl)
theorem dJ9_poll_73 : decode cJ9_poll 73 = .ok (.iload_n 3, 1) := dk_29 (dk_at dksJ9_poll_3 1 rfl rfl)
theorem dJ9_poll_74 : decode cJ9_poll 74 = .ok (.aload 5, 2) := dk_25 5 (dk_at dksJ9_poll_3 2 rfl rfl)
theorem dJ9_poll_76 : decode cJ9_poll 76 = .ok (.invokestatic 129, 3) := dk_184 0 129 (dk_at dksJ9_poll_3 4 rfl rfl)
theorem dJ9_poll_79 : decode cJ9_poll 79 = .ok (.aload_n 2, 1) := dk_44 (dk_at dksJ9_poll_3 7 rfl rfl)
theorem dJ9_poll_80 : decode cJ9_poll 80 = .ok (.areturn, 1) := dk_176 (dk_at dksJ9_poll_3 8 rfl rfl)
abbrev cJ9_siftDownComparable : ByteArray := prog_46_method_31_code
def yJ9_siftDownComparable : MethodName := ⟨RJ9, "siftDownComparable", "(ILjava/lang/Object;[Ljava/lang/Object;I)V"⟩
def dkwJ9_siftDownComparable_4 : List UInt8 := [25, 4, 83, 177]
abbrev dktJ9_siftDownComparable_4 : List UInt8 := dkwJ9_siftDownComparable_4 ++ []
def dkwJ9_siftDownComparable_3 : List UInt8 := [185, 0, 146, 2, 0, 157, 0, 6, 167, 0, 14, 44, 26, 25, 7, 83, 21, 6, 59, 167, 255, 176, 44, 26]
abbrev dktJ9_siftDownComparable_3 : List UInt8 := dkwJ9_siftDownComparable_3 ++ dktJ9_siftDownComparable_4
def dkwJ9_siftDownComparable_2 : List UInt8 := [21, 8, 50, 185, 0, 146, 2, 0, 158, 0, 12, 44, 21, 8, 89, 54, 6, 50, 58, 7, 25, 4, 25, 7]
abbrev dktJ9_siftDownComparable_2 : List UInt8 := dkwJ9_siftDownComparable_2 ++ dktJ9_siftDownComparable_3
def dkwJ9_siftDownComparable_1 : List UInt8 := [44, 21, 6, 50, 58, 7, 21, 6, 4, 96, 54, 8, 21, 8, 29, 162, 0, 29, 25, 7, 192, 0, 144, 44]
abbrev dktJ9_siftDownComparable_1 : List UInt8 := dkwJ9_siftDownComparable_1 ++ dktJ9_siftDownComparable_2
def dkwJ9_siftDownComparable_0 : List UInt8 := [43, 192, 0, 144, 58, 4, 29, 4, 124, 54, 5, 26, 21, 5, 162, 0, 80, 26, 4, 120, 4, 96, 54, 6]
abbrev dktJ9_siftDownComparable_0 : List UInt8 := dkwJ9_siftDownComparable_0 ++ dktJ9_siftDownComparable_1
theorem dksJ9_siftDownComparable_0 : cJ9_siftDownComparable.data.toList.drop 0 = dktJ9_siftDownComparable_0 := by decide +kernel
theorem dksJ9_siftDownComparable_1 : cJ9_siftDownComparable.data.toList.drop 24 = dktJ9_siftDownComparable_1 := dk_seg dksJ9_siftDownComparable_0 24 rfl rfl
theorem dksJ9_siftDownComparable_2 : cJ9_siftDownComparable.data.toList.drop 48 = dktJ9_siftDownComparable_2 := dk_seg dksJ9_siftDownComparable_1 24 rfl rfl
theorem dksJ9_siftDownComparable_3 : cJ9_siftDownComparable.data.toList.drop 72 = dktJ9_siftDownComparable_3 := dk_seg dksJ9_siftDownComparable_2 24 rfl rfl
theorem dksJ9_siftDownComparable_4 : cJ9_siftDownComparable.data.toList.drop 96 = dktJ9_siftDownComparable_4 := dk_seg dksJ9_siftDownComparable_3 24 rfl rfl
theorem dJ9_siftDownComparable_0 : decode cJ9_siftDownComparable 0 = .ok (.aload_n 1, 1) := dk_43 (dk_at dksJ9_siftDownComparable_0 0 rfl rfl)
theorem dJ9_siftDownComparable_1 : decode cJ9_siftDownComparable 1 = .ok (.checkcast 144, 3) := dk_192 0 144 (dk_at dksJ9_siftDownComparable_0 1 rfl rfl)
theorem dJ9_siftDownComparable_4 : decode cJ9_siftDownComparable 4 = .ok (.astore 4, 2) := dk_58 4 (dk_at dksJ9_siftDownComparable_0 4 rfl rfl)
theorem dJ9_siftDownComparable_6 : decode cJ9_siftDownComparable 6 = .ok (.iload_n 3, 1) := dk_29 (dk_at dksJ9_siftDownComparable_0 6 rfl rfl)
theorem dJ9_siftDownComparable_7 : decode cJ9_siftDownComparable 7 = .ok (.iconst 1, 1) := dk_4 (dk_at dksJ9_siftDownComparable_0 7 rfl rfl)
theorem dJ9_siftDownComparable_8 : decode cJ9_siftDownComparable 8 = .ok (.iushr, 1) := dk_124 (dk_at dksJ9_siftDownComparable_0 8 rfl rfl)
theorem dJ9_siftDownComparable_9 : decode cJ9_siftDownComparable 9 = .ok (.istore 5, 2) := dk_54 5 (dk_at dksJ9_siftDownComparable_0 9 rfl rfl)
theorem dJ9_siftDownComparable_11 : decode cJ9_siftDownComparable 11 = .ok (.iload_n 0, 1) := dk_26 (dk_at dksJ9_siftDownComparable_0 11 rfl rfl)
theorem dJ9_siftDownComparable_12 : decode cJ9_siftDownComparable 12 = .ok (.iload 5, 2) := dk_21 5 (dk_at dksJ9_siftDownComparable_0 12 rfl rfl)
theorem dJ9_siftDownComparable_14 : decode cJ9_siftDownComparable 14 = .ok (.if_icmp .ge 80, 3) := dk_162 0 80 (dk_at dksJ9_siftDownComparable_0 14 rfl rfl)
theorem dJ9_siftDownComparable_17 : decode cJ9_siftDownComparable 17 = .ok (.iload_n 0, 1) := dk_26 (dk_at dksJ9_siftDownComparable_0 17 rfl rfl)
theorem dJ9_siftDownComparable_18 : decode cJ9_siftDownComparable 18 = .ok (.iconst 1, 1) := dk_4 (dk_at dksJ9_siftDownComparable_0 18 rfl rfl)
theorem dJ9_siftDownComparable_19 : decode cJ9_siftDownComparable 19 = .ok (.ishl, 1) := dk_120 (dk_at dksJ9_siftDownComparable_0 19 rfl rfl)
theorem dJ9_siftDownComparable_20 : decode cJ9_siftDownComparable 20 = .ok (.iconst 1, 1) := dk_4 (dk_at dksJ9_siftDownComparable_0 20 rfl rfl)
theorem dJ9_siftDownComparable_21 : decode cJ9_siftDownComparable 21 = .ok (.iadd, 1) := dk_96 (dk_at dksJ9_siftDownComparable_0 21 rfl rfl)
theorem dJ9_siftDownComparable_22 : decode cJ9_siftDownComparable 22 = .ok (.istore 6, 2) := dk_54 6 (dk_at dksJ9_siftDownComparable_0 22 rfl rfl)
theorem dJ9_siftDownComparable_24 : decode cJ9_siftDownComparable 24 = .ok (.aload_n 2, 1) := dk_44 (dk_at dksJ9_siftDownComparable_1 0 rfl rfl)
theorem dJ9_siftDownComparable_25 : decode cJ9_siftDownComparable 25 = .ok (.iload 6, 2) := dk_21 6 (dk_at dksJ9_siftDownComparable_1 1 rfl rfl)
theorem dJ9_siftDownComparable_27 : decode cJ9_siftDownComparable 27 = .ok (.aaload, 1) := dk_50 (dk_at dksJ9_siftDownComparable_1 3 rfl rfl)
theorem dJ9_siftDownComparable_28 : decode cJ9_siftDownComparable 28 = .ok (.astore 7, 2) := dk_58 7 (dk_at dksJ9_siftDownComparable_1 4 rfl rfl)
theorem dJ9_siftDownComparable_30 : decode cJ9_siftDownComparable 30 = .ok (.iload 6, 2) := dk_21 6 (dk_at dksJ9_siftDownComparable_1 6 rfl rfl)
theorem dJ9_siftDownComparable_32 : decode cJ9_siftDownComparable 32 = .ok (.iconst 1, 1) := dk_4 (dk_at dksJ9_siftDownComparable_1 8 rfl rfl)
theorem dJ9_siftDownComparable_33 : decode cJ9_siftDownComparable 33 = .ok (.iadd, 1) := dk_96 (dk_at dksJ9_siftDownComparable_1 9 rfl rfl)
theorem dJ9_siftDownComparable_34 : decode cJ9_siftDownComparable 34 = .ok (.istore 8, 2) := dk_54 8 (dk_at dksJ9_siftDownComparable_1 10 rfl rfl)
theorem dJ9_siftDownComparable_36 : decode cJ9_siftDownComparable 36 = .ok (.iload 8, 2) := dk_21 8 (dk_at dksJ9_siftDownComparable_1 12 rfl rfl)
theorem dJ9_siftDownComparable_38 : decode cJ9_siftDownComparable 38 = .ok (.iload_n 3, 1) := dk_29 (dk_at dksJ9_siftDownComparable_1 14 rfl rfl)
theorem dJ9_siftDownComparable_39 : decode cJ9_siftDownComparable 39 = .ok (.if_icmp .ge 29, 3) := dk_162 0 29 (dk_at dksJ9_siftDownComparable_1 15 rfl rfl)
theorem dJ9_siftDownComparable_42 : decode cJ9_siftDownComparable 42 = .ok (.aload 7, 2) := dk_25 7 (dk_at dksJ9_siftDownComparable_1 18 rfl rfl)
theorem dJ9_siftDownComparable_44 : decode cJ9_siftDownComparable 44 = .ok (.checkcast 144, 3) := dk_192 0 144 (dk_at dksJ9_siftDownComparable_1 20 rfl rfl)
theorem dJ9_siftDownComparable_47 : decode cJ9_siftDownComparable 47 = .ok (.aload_n 2, 1) := dk_44 (dk_at dksJ9_siftDownComparable_1 23 rfl rfl)
theorem dJ9_siftDownComparable_48 : decode cJ9_siftDownComparable 48 = .ok (.iload 8, 2) := dk_21 8 (dk_at dksJ9_siftDownComparable_2 0 rfl rfl)
theorem dJ9_siftDownComparable_50 : decode cJ9_siftDownComparable 50 = .ok (.aaload, 1) := dk_50 (dk_at dksJ9_siftDownComparable_2 2 rfl rfl)
theorem dJ9_siftDownComparable_51 : decode cJ9_siftDownComparable 51 = .ok (.invokeinterface 146 2, 5) := by decide +kernel
theorem dJ9_siftDownComparable_56 : decode cJ9_siftDownComparable 56 = .ok (.ifCond .le 12, 3) := dk_158 0 12 (dk_at dksJ9_siftDownComparable_2 8 rfl rfl)
theorem dJ9_siftDownComparable_59 : decode cJ9_siftDownComparable 59 = .ok (.aload_n 2, 1) := dk_44 (dk_at dksJ9_siftDownComparable_2 11 rfl rfl)
theorem dJ9_siftDownComparable_60 : decode cJ9_siftDownComparable 60 = .ok (.iload 8, 2) := dk_21 8 (dk_at dksJ9_siftDownComparable_2 12 rfl rfl)
theorem dJ9_siftDownComparable_62 : decode cJ9_siftDownComparable 62 = .ok (.dup, 1) := dk_89 (dk_at dksJ9_siftDownComparable_2 14 rfl rfl)
theorem dJ9_siftDownComparable_63 : decode cJ9_siftDownComparable 63 = .ok (.istore 6, 2) := dk_54 6 (dk_at dksJ9_siftDownComparable_2 15 rfl rfl)
theorem dJ9_siftDownComparable_65 : decode cJ9_siftDownComparable 65 = .ok (.aaload, 1) := dk_50 (dk_at dksJ9_siftDownComparable_2 17 rfl rfl)
theorem dJ9_siftDownComparable_66 : decode cJ9_siftDownComparable 66 = .ok (.astore 7, 2) := dk_58 7 (dk_at dksJ9_siftDownComparable_2 18 rfl rfl)
theorem dJ9_siftDownComparable_68 : decode cJ9_siftDownComparable 68 = .ok (.aload 4, 2) := dk_25 4 (dk_at dksJ9_siftDownComparable_2 20 rfl rfl)
theorem dJ9_siftDownComparable_70 : decode cJ9_siftDownComparable 70 = .ok (.aload 7, 2) := dk_25 7 (dk_at dksJ9_siftDownComparable_2 22 rfl rfl)
theorem dJ9_siftDownComparable_72 : decode cJ9_siftDownComparable 72 = .ok (.invokeinterface 146 2, 5) := by decide +kernel
theorem dJ9_siftDownComparable_77 : decode cJ9_siftDownComparable 77 = .ok (.ifCond .gt 6, 3) := dk_157 0 6 (dk_at dksJ9_siftDownComparable_3 5 rfl rfl)
theorem dJ9_siftDownComparable_80 : decode cJ9_siftDownComparable 80 = .ok (.goto 14, 3) := dk_167 0 14 (dk_at dksJ9_siftDownComparable_3 8 rfl rfl)
theorem dJ9_siftDownComparable_83 : decode cJ9_siftDownComparable 83 = .ok (.aload_n 2, 1) := dk_44 (dk_at dksJ9_siftDownComparable_3 11 rfl rfl)
theorem dJ9_siftDownComparable_84 : decode cJ9_siftDownComparable 84 = .ok (.iload_n 0, 1) := dk_26 (dk_at dksJ9_siftDownComparable_3 12 rfl rfl)
theorem dJ9_siftDownComparable_85 : decode cJ9_siftDownComparable 85 = .ok (.aload 7, 2) := dk_25 7 (dk_at dksJ9_siftDownComparable_3 13 rfl rfl)
theorem dJ9_siftDownComparable_87 : decode cJ9_siftDownComparable 87 = .ok (.aastore, 1) := dk_83 (dk_at dksJ9_siftDownComparable_3 15 rfl rfl)
theorem dJ9_siftDownComparable_88 : decode cJ9_siftDownComparable 88 = .ok (.iload 6, 2) := dk_21 6 (dk_at dksJ9_siftDownComparable_3 16 rfl rfl)
theorem dJ9_siftDownComparable_90 : decode cJ9_siftDownComparable 90 = .ok (.istore_n 0, 1) := dk_59 (dk_at dksJ9_siftDownComparable_3 18 rfl rfl)
theorem dJ9_siftDownComparable_91 : decode cJ9_siftDownComparable 91 = .ok (.goto (-80), 3) := dk_167 255 176 (dk_at dksJ9_siftDownComparable_3 19 rfl rfl)
theorem dJ9_siftDownComparable_94 : decode cJ9_siftDownComparable 94 = .ok (.aload_n 2, 1) := dk_44 (dk_at dksJ9_siftDownComparable_3 22 rfl rfl)
theorem dJ9_siftDownComparable_95 : decode cJ9_siftDownComparable 95 = .ok (.iload_n 0, 1) := dk_26 (dk_at dksJ9_siftDownComparable_3 23 rfl rfl)
theorem dJ9_siftDownComparable_96 : decode cJ9_siftDownComparable 96 = .ok (.aload 4, 2) := dk_25 4 (dk_at dksJ9_siftDownComparable_4 0 rfl rfl)
theorem dJ9_siftDownComparable_98 : decode cJ9_siftDownComparable 98 = .ok (.aastore, 1) := dk_83 (dk_at dksJ9_siftDownComparable_4 2 rfl rfl)
theorem dJ9_siftDownComparable_99 : decode cJ9_siftDownComparable 99 = .ok (.return_, 1) := dk_177 (dk_at dksJ9_siftDownComparable_4 3 rfl rfl)
abbrev cJ9_siftDownUsingComparator : ByteArray := prog_46_method_32_code
def yJ9_siftDownUsingComparator : MethodName := ⟨RJ9, "siftDownUsingComparator", "(ILjava/lang/Object;[Ljava/lang/Object;ILjava/util/Comparator;)V"⟩
def dkwJ9_siftDownUsingComparator_4 : List UInt8 := [43, 83, 177]
abbrev dktJ9_siftDownUsingComparator_4 : List UInt8 := dkwJ9_siftDownUsingComparator_4 ++ []
def dkwJ9_siftDownUsingComparator_3 : List UInt8 := [185, 0, 149, 3, 0, 157, 0, 6, 167, 0, 14, 44, 26, 25, 7, 83, 21, 6, 59, 167, 255, 176, 44, 26]
abbrev dktJ9_siftDownUsingComparator_3 : List UInt8 := dkwJ9_siftDownUsingComparator_3 ++ dktJ9_siftDownUsingComparator_4
def dkwJ9_siftDownUsingComparator_2 : List UInt8 := [185, 0, 149, 3, 0, 158, 0, 12, 44, 21, 8, 89, 54, 6, 50, 58, 7, 25, 4, 43, 25, 7]
abbrev dktJ9_siftDownUsingComparator_2 : List UInt8 := dkwJ9_siftDownUsingComparator_2 ++ dktJ9_siftDownUsingComparator_3
def dkwJ9_siftDownUsingComparator_1 : List UInt8 := [21, 6, 4, 96, 54, 8, 21, 8, 29, 162, 0, 28, 25, 4, 25, 7, 44, 21, 8, 50]
abbrev dktJ9_siftDownUsingComparator_1 : List UInt8 := dkwJ9_siftDownUsingComparator_1 ++ dktJ9_siftDownUsingComparator_2
def dkwJ9_siftDownUsingComparator_0 : List UInt8 := [29, 4, 124, 54, 5, 26, 21, 5, 162, 0, 80, 26, 4, 120, 4, 96, 54, 6, 44, 21, 6, 50, 58, 7]
abbrev dktJ9_siftDownUsingComparator_0 : List UInt8 := dkwJ9_siftDownUsingComparator_0 ++ dktJ9_siftDownUsingComparator_1
theorem dksJ9_siftDownUsingComparator_0 : cJ9_siftDownUsingComparator.data.toList.drop 0 = dktJ9_siftDownUsingComparator_0 := by decide +kernel
theorem dksJ9_siftDownUsingComparator_1 : cJ9_siftDownUsingComparator.data.toList.drop 24 = dktJ9_siftDownUsingComparator_1 := dk_seg dksJ9_siftDownUsingComparator_0 24 rfl rfl
theorem dksJ9_siftDownUsingComparator_2 : cJ9_siftDownUsingComparator.data.toList.drop 44 = dktJ9_siftDownUsingComparator_2 := dk_seg dksJ9_siftDownUsingComparator_1 20 rfl rfl
theorem dksJ9_siftDownUsingComparator_3 : cJ9_siftDownUsingComparator.data.toList.drop 66 = dktJ9_siftDownUsingComparator_3 := dk_seg dksJ9_siftDownUsingComparator_2 22 rfl rfl
theorem dksJ9_siftDownUsingComparator_4 : cJ9_siftDownUsingComparator.data.toList.drop 90 = dktJ9_siftDownUsingComparator_4 := dk_seg dksJ9_siftDownUsingComparator_3 24 rfl rfl
theorem dJ9_siftDownUsingComparator_0 : decode cJ9_siftDownUsingComparator 0 = .ok (.iload_n 3, 1) := dk_29 (dk_at dksJ9_siftDownUsingComparator_0 0 rfl rfl)
theorem dJ9_siftDownUsingComparator_1 : decode cJ9_siftDownUsingComparator 1 = .ok (.iconst 1, 1) := dk_4 (dk_at dksJ9_siftDownUsingComparator_0 1 rfl rfl)
theorem dJ9_siftDownUsingComparator_2 : decode cJ9_siftDownUsingComparator 2 = .ok (.iushr, 1) := dk_124 (dk_at dksJ9_siftDownUsingComparator_0 2 rfl rfl)
theorem dJ9_siftDownUsingComparator_3 : decode cJ9_siftDownUsingComparator 3 = .ok (.istore 5, 2) := dk_54 5 (dk_at dksJ9_siftDownUsingComparator_0 3 rfl rfl)
theorem dJ9_siftDownUsingComparator_5 : decode cJ9_siftDownUsingComparator 5 = .ok (.iload_n 0, 1) := dk_26 (dk_at dksJ9_siftDownUsingComparator_0 5 rfl rfl)
theorem dJ9_siftDownUsingComparator_6 : decode cJ9_siftDownUsingComparator 6 = .ok (.iload 5, 2) := dk_21 5 (dk_at dksJ9_siftDownUsingComparator_0 6 rfl rfl)
theorem dJ9_siftDownUsingComparator_8 : decode cJ9_siftDownUsingComparator 8 = .ok (.if_icmp .ge 80, 3) := dk_162 0 80 (dk_at dksJ9_siftDownUsingComparator_0 8 rfl rfl)
theorem dJ9_siftDownUsingComparator_11 : decode cJ9_siftDownUsingComparator 11 = .ok (.iload_n 0, 1) := dk_26 (dk_at dksJ9_siftDownUsingComparator_0 11 rfl rfl)
theorem dJ9_siftDownUsingComparator_12 : decode cJ9_siftDownUsingComparator 12 = .ok (.iconst 1, 1) := dk_4 (dk_at dksJ9_siftDownUsingComparator_0 12 rfl rfl)
theorem dJ9_siftDownUsingComparator_13 : decode cJ9_siftDownUsingComparator 13 = .ok (.ishl, 1) := dk_120 (dk_at dksJ9_siftDownUsingComparator_0 13 rfl rfl)
theorem dJ9_siftDownUsingComparator_14 : decode cJ9_siftDownUsingComparator 14 = .ok (.iconst 1, 1) := dk_4 (dk_at dksJ9_siftDownUsingComparator_0 14 rfl rfl)
theorem dJ9_siftDownUsingComparator_15 : decode cJ9_siftDownUsingComparator 15 = .ok (.iadd, 1) := dk_96 (dk_at dksJ9_siftDownUsingComparator_0 15 rfl rfl)
theorem dJ9_siftDownUsingComparator_16 : decode cJ9_siftDownUsingComparator 16 = .ok (.istore 6, 2) := dk_54 6 (dk_at dksJ9_siftDownUsingComparator_0 16 rfl rfl)
theorem dJ9_siftDownUsingComparator_18 : decode cJ9_siftDownUsingComparator 18 = .ok (.aload_n 2, 1) := dk_44 (dk_at dksJ9_siftDownUsingComparator_0 18 rfl rfl)
theorem dJ9_siftDownUsingComparator_19 : decode cJ9_siftDownUsingComparator 19 = .ok (.iload 6, 2) := dk_21 6 (dk_at dksJ9_siftDownUsingComparator_0 19 rfl rfl)
theorem dJ9_siftDownUsingComparator_21 : decode cJ9_siftDownUsingComparator 21 = .ok (.aaload, 1) := dk_50 (dk_at dksJ9_siftDownUsingComparator_0 21 rfl rfl)
theorem dJ9_siftDownUsingComparator_22 : decode cJ9_siftDownUsingComparator 22 = .ok (.astore 7, 2) := dk_58 7 (dk_at dksJ9_siftDownUsingComparator_0 22 rfl rfl)
theorem dJ9_siftDownUsingComparator_24 : decode cJ9_siftDownUsingComparator 24 = .ok (.iload 6, 2) := dk_21 6 (dk_at dksJ9_siftDownUsingComparator_1 0 rfl rfl)
theorem dJ9_siftDownUsingComparator_26 : decode cJ9_siftDownUsingComparator 26 = .ok (.iconst 1, 1) := dk_4 (dk_at dksJ9_siftDownUsingComparator_1 2 rfl rfl)
theorem dJ9_siftDownUsingComparator_27 : decode cJ9_siftDownUsingComparator 27 = .ok (.iadd, 1) := dk_96 (dk_at dksJ9_siftDownUsingComparator_1 3 rfl rfl)
theorem dJ9_siftDownUsingComparator_28 : decode cJ9_siftDownUsingComparator 28 = .ok (.istore 8, 2) := dk_54 8 (dk_at dksJ9_siftDownUsingComparator_1 4 rfl rfl)
theorem dJ9_siftDownUsingComparator_30 : decode cJ9_siftDownUsingComparator 30 = .ok (.iload 8, 2) := dk_21 8 (dk_at dksJ9_siftDownUsingComparator_1 6 rfl rfl)
theorem dJ9_siftDownUsingComparator_32 : decode cJ9_siftDownUsingComparator 32 = .ok (.iload_n 3, 1) := dk_29 (dk_at dksJ9_siftDownUsingComparator_1 8 rfl rfl)
theorem dJ9_siftDownUsingComparator_33 : decode cJ9_siftDownUsingComparator 33 = .ok (.if_icmp .ge 28, 3) := dk_162 0 28 (dk_at dksJ9_siftDownUsingComparator_1 9 rfl rfl)
theorem dJ9_siftDownUsingComparator_36 : decode cJ9_siftDownUsingComparator 36 = .ok (.aload 4, 2) := dk_25 4 (dk_at dksJ9_siftDownUsingComparator_1 12 rfl rfl)
theorem dJ9_siftDownUsingComparator_38 : decode cJ9_siftDownUsingComparator 38 = .ok (.aload 7, 2) := dk_25 7 (dk_at dksJ9_siftDownUsingComparator_1 14 rfl rfl)
theorem dJ9_siftDownUsingComparator_40 : decode cJ9_siftDownUsingComparator 40 = .ok (.aload_n 2, 1) := dk_44 (dk_at dksJ9_siftDownUsingComparator_1 16 rfl rfl)
theorem dJ9_siftDownUsingComparator_41 : decode cJ9_siftDownUsingComparator 41 = .ok (.iload 8, 2) := dk_21 8 (dk_at dksJ9_siftDownUsingComparator_1 17 rfl rfl)
theorem dJ9_siftDownUsingComparator_43 : decode cJ9_siftDownUsingComparator 43 = .ok (.aaload, 1) := dk_50 (dk_at dksJ9_siftDownUsingComparator_1 19 rfl rfl)
theorem dJ9_siftDownUsingComparator_44 : decode cJ9_siftDownUsingComparator 44 = .ok (.invokeinterface 149 3, 5) := by decide +kernel
theorem dJ9_siftDownUsingComparator_49 : decode cJ9_siftDownUsingComparator 49 = .ok (.ifCond .le 12, 3) := dk_158 0 12 (dk_at dksJ9_siftDownUsingComparator_2 5 rfl rfl)
theorem dJ9_siftDownUsingComparator_52 : decode cJ9_siftDownUsingComparator 52 = .ok (.aload_n 2, 1) := dk_44 (dk_at dksJ9_siftDownUsingComparator_2 8 rfl rfl)
theorem dJ9_siftDownUsingComparator_53 : decode cJ9_siftDownUsingComparator 53 = .ok (.iload 8, 2) := dk_21 8 (dk_at dksJ9_siftDownUsingComparator_2 9 rfl rfl)
theorem dJ9_siftDownUsingComparator_55 : decode cJ9_siftDownUsingComparator 55 = .ok (.dup, 1) := dk_89 (dk_at dksJ9_siftDownUsingComparator_2 11 rfl rfl)
theorem dJ9_siftDownUsingComparator_56 : decode cJ9_siftDownUsingComparator 56 = .ok (.istore 6, 2) := dk_54 6 (dk_at dksJ9_siftDownUsingComparator_2 12 rfl rfl)
theorem dJ9_siftDownUsingComparator_58 : decode cJ9_siftDownUsingComparator 58 = .ok (.aaload, 1) := dk_50 (dk_at dksJ9_siftDownUsingComparator_2 14 rfl rfl)
theorem dJ9_siftDownUsingComparator_59 : decode cJ9_siftDownUsingComparator 59 = .ok (.astore 7, 2) := dk_58 7 (dk_at dksJ9_siftDownUsingComparator_2 15 rfl rfl)
theorem dJ9_siftDownUsingComparator_61 : decode cJ9_siftDownUsingComparator 61 = .ok (.aload 4, 2) := dk_25 4 (dk_at dksJ9_siftDownUsingComparator_2 17 rfl rfl)
theorem dJ9_siftDownUsingComparator_63 : decode cJ9_siftDownUsingComparator 63 = .ok (.aload_n 1, 1) := dk_43 (dk_at dksJ9_siftDownUsingComparator_2 19 rfl rfl)
theorem dJ9_siftDownUsingComparator_64 : decode cJ9_siftDownUsingComparator 64 = .ok (.aload 7, 2) := dk_25 7 (dk_at dksJ9_siftDownUsingComparator_2 20 rfl rfl)
theorem dJ9_siftDownUsingComparator_66 : decode cJ9_siftDownUsingComparator 66 = .ok (.invokeinterface 149 3, 5) := by decide +kernel
theorem dJ9_siftDownUsingComparator_71 : decode cJ9_siftDownUsingComparator 71 = .ok (.ifCond .gt 6, 3) := dk_157 0 6 (dk_at dksJ9_siftDownUsingComparator_3 5 rfl rfl)
theorem dJ9_siftDownUsingComparator_74 : decode cJ9_siftDownUsingComparator 74 = .ok (.goto 14, 3) := dk_167 0 14 (dk_at dksJ9_siftDownUsingComparator_3 8 rfl rfl)
theorem dJ9_siftDownUsingComparator_77 : decode cJ9_siftDownUsingComparator 77 = .ok (.aload_n 2, 1) := dk_44 (dk_at dksJ9_siftDownUsingComparator_3 11 rfl rfl)
theorem dJ9_siftDownUsingComparator_78 : decode cJ9_siftDownUsingComparator 78 = .ok (.iload_n 0, 1) := dk_26 (dk_at dksJ9_siftDownUsingComparator_3 12 rfl rfl)
theorem dJ9_siftDownUsingComparator_79 : decode cJ9_siftDownUsingComparator 79 = .ok (.aload 7, 2) := dk_25 7 (dk_at dksJ9_siftDownUsingComparator_3 13 rfl rfl)
theorem dJ9_siftDownUsingComparator_81 : decode cJ9_siftDownUsingComparator 81 = .ok (.aastore, 1) := dk_83 (dk_at dksJ9_siftDownUsingComparator_3 15 rfl rfl)
theorem dJ9_siftDownUsingComparator_82 : decode cJ9_siftDownUsingComparator 82 = .ok (.iload 6, 2) := dk_21 6 (dk_at dksJ9_siftDownUsingComparator_3 16 rfl rfl)
theorem dJ9_siftDownUsingComparator_84 : decode cJ9_siftDownUsingComparator 84 = .ok (.istore_n 0, 1) := dk_59 (dk_at dksJ9_siftDownUsingComparator_3 18 rfl rfl)
theorem dJ9_siftDownUsingComparator_85 : decode cJ9_siftDownUsingComparator 85 = .ok (.goto (-80), 3) := dk_167 255 176 (dk_at dksJ9_siftDownUsingComparator_3 19 rfl rfl)
theorem dJ9_siftDownUsingComparator_88 : decode cJ9_siftDownUsingComparator 88 = .ok (.aload_n 2, 1) := dk_44 (dk_at dksJ9_siftDownUsingComparator_3 22 rfl rfl)
theorem dJ9_siftDownUsingComparator_89 : decode cJ9_siftDownUsingComparator 89 = .ok (.iload_n 0, 1) := dk_26 (dk_at dksJ9_siftDownUsingComparator_3 23 rfl rfl)
theorem dJ9_siftDownUsingComparator_90 : decode cJ9_siftDownUsingComparator 90 = .ok (.aload_n 1, 1) := dk_43 (dk_at dksJ9_siftDownUsingComparator_4 0 rfl rfl)
theorem dJ9_siftDownUsingComparator_91 : decode cJ9_siftDownUsingComparator 91 = .ok (.aastore, 1) := dk_83 (dk_at dksJ9_siftDownUsingComparator_4 1 rfl rfl)
theorem dJ9_siftDownUsingComparator_92 : decode cJ9_siftDownUsingComparator 92 = .ok (.return_, 1) := dk_177 (dk_at dksJ9_siftDownUsingComparator_4 2 rfl rfl)
abbrev cJ9_size : ByteArray := prog_46_method_23_code
def yJ9_size : MethodName := ⟨RJ9, "size", "()I"⟩
theorem dJ9_size_0 : decode cJ9_size 0 = .ok (.aload_n 0, 1) := by decide +kernel
theorem dJ9_size_1 : decode cJ9_size 1 = .ok (.getfield 58, 3) := by decide +kernel
theorem dJ9_size_4 : decode cJ9_size 4 = .ok (.ireturn, 1) := by decide +kernel
abbrev cJ9_peek : ByteArray := prog_46_method_15_code
def yJ9_peek : MethodName := ⟨RJ9, "peek", "()Ljava/lang/Object;"⟩
def dkwJ9_peek_0 : List UInt8 := [42, 180, 0, 17, 3, 50, 176]
abbrev dktJ9_peek_0 : List UInt8 := dkwJ9_peek_0 ++ []
theorem dksJ9_peek_0 : cJ9_peek.data.toList.drop 0 = dktJ9_peek_0 := by decide +kernel
theorem dJ9_peek_0 : decode cJ9_peek 0 = .ok (.aload_n 0, 1) := dk_42 (dk_at dksJ9_peek_0 0 rfl rfl)
theorem dJ9_peek_1 : decode cJ9_peek 1 = .ok (.getfield 17, 3) := dk_180 0 17 (dk_at dksJ9_peek_0 1 rfl rfl)
theorem dJ9_peek_4 : decode cJ9_peek 4 = .ok (.iconst 0, 1) := dk_3 (dk_at dksJ9_peek_0 4 rfl rfl)
theorem dJ9_peek_5 : decode cJ9_peek 5 = .ok (.aaload, 1) := dk_50 (dk_at dksJ9_peek_0 5 rfl rfl)
theorem dJ9_peek_6 : decode cJ9_peek 6 = .ok (.areturn, 1) := dk_176 (dk_at dksJ9_peek_0 6 rfl rfl)
theorem q68 : (Jvm.Cond.initialized "java/util/PriorityQueue") ∈ lw_all := lw_g (lw_at lw_m1 13 rfl) rfl
theorem q201 : (Jvm.Cond.selects "java/util/PriorityQueue" ({ cls := "java/lang/Object", name := "getClass", desc := "()Ljava/lang/Class;" } : Jvm.MethodName) ({ cls := "java/lang/Object", name := "getClass", desc := "()Ljava/lang/Class;" } : Jvm.MethodName)) ∈ lw_all := lw_g (lw_at lw_m1 146 rfl) rfl
theorem q221 : (Jvm.Cond.instantiable "java/util/PriorityQueue" (4 : Nat)) ∈ lw_all := lw_g (lw_at lw_m1 166 rfl) rfl
theorem q232 : (Jvm.Cond.instanceMethod ({ cls := "java/util/PriorityQueue", name := "<init>", desc := "(Ljava/util/Comparator;)V" } : Jvm.MethodName)) ∈ lw_all := lw_g (lw_at lw_m1 177 rfl) rfl
theorem q233 : (Jvm.Cond.code ({ cls := "java/util/PriorityQueue", name := "<init>", desc := "(Ljava/util/Comparator;)V" } : Jvm.MethodName) prog_46_method_3_code (2 : Nat) (Option.none : Option Jvm.ClassFile.FieldType)) ∈ lw_all := lw_g (lw_at lw_m1 178 rfl) rfl
theorem q234 : (Jvm.Cond.methodLink "java/util/PriorityQueue" (3 : Nat) ({ cls := "java/util/PriorityQueue", name := "<init>", desc := "(ILjava/util/Comparator;)V" } : Jvm.MethodName)) ∈ lw_all := lw_g (lw_at lw_m1 179 rfl) rfl
theorem q235 : (Jvm.Cond.instanceMethod ({ cls := "java/util/PriorityQueue", name := "<init>", desc := "(ILjava/util/Comparator;)V" } : Jvm.MethodName)) ∈ lw_all := lw_g (lw_at lw_m1 180 rfl) rfl
theorem q236 : (Jvm.Cond.code ({ cls := "java/util/PriorityQueue", name := "<init>", desc := "(ILjava/util/Comparator;)V" } : Jvm.MethodName) prog_46_method_4_code (3 : Nat) (Option.none : Option Jvm.ClassFile.FieldType)) ∈ lw_all := lw_g (lw_at lw_m1 181 rfl) rfl
theorem q237 : (Jvm.Cond.methodLink "java/util/PriorityQueue" (7 : Nat) ({ cls := "java/util/AbstractQueue", name := "<init>", desc := "()V" } : Jvm.MethodName)) ∈ lw_all := lw_g (lw_at lw_m1 182 rfl) rfl
theorem q241 : (Jvm.Cond.classLink "java/util/PriorityQueue" (12 : Nat) "java/lang/IllegalArgumentException") ∈ lw_all := lw_g (lw_at lw_m1 186 rfl) rfl
theorem q284 : (Jvm.Cond.methodLink "java/util/PriorityQueue" (14 : Nat) ({ cls := "java/lang/IllegalArgumentException", name := "<init>", desc := "()V" } : Jvm.MethodName)) ∈ lw_all := lw_g (lw_at lw_m1 229 rfl) rfl
theorem q307 : (Jvm.Cond.classLink "java/util/PriorityQueue" (15 : Nat) "java/lang/Object") ∈ lw_all := lw_g (lw_at lw_m2 12 rfl) rfl
theorem q308 : (Jvm.Cond.fieldLink "java/util/PriorityQueue" (17 : Nat) "java/util/PriorityQueue" "queue" "[Ljava/lang/Object;") ∈ lw_all := lw_g (lw_at lw_m2 13 rfl) rfl
theorem q309 : (Jvm.Cond.fieldLink "java/util/PriorityQueue" (58 : Nat) "java/util/PriorityQueue" "size" "I") ∈ lw_all := lw_g (lw_at lw_m2 14 rfl) rfl
theorem q310 : (Jvm.Cond.fieldLink "java/util/PriorityQueue" (21 : Nat) "java/util/PriorityQueue" "comparator" "Ljava/util/Comparator;") ∈ lw_all := lw_g (lw_at lw_m2 15 rfl) rfl
theorem q311 : (Jvm.Cond.fieldLink "java/util/PriorityQueue" (93 : Nat) "java/util/PriorityQueue" "modCount" "I") ∈ lw_all := lw_g (lw_at lw_m2 16 rfl) rfl
theorem q312 : (Jvm.Cond.lays "java/util/PriorityQueue" "java/util/PriorityQueue" "queue" "[Ljava/lang/Object;") ∈ lw_all := lw_g (lw_at lw_m2 17 rfl) rfl
theorem q313 : (Jvm.Cond.soleField "java/util/PriorityQueue" "queue") ∈ lw_all := lw_g (lw_at lw_m2 18 rfl) rfl
theorem q314 : (Jvm.Cond.lays "java/util/PriorityQueue" "java/util/PriorityQueue" "size" "I") ∈ lw_all := lw_g (lw_at lw_m2 19 rfl) rfl
theorem q315 : (Jvm.Cond.soleField "java/util/PriorityQueue" "size") ∈ lw_all := lw_g (lw_at lw_m2 20 rfl) rfl
theorem q316 : (Jvm.Cond.laysFinal "java/util/PriorityQueue" "java/util/PriorityQueue" "comparator" "Ljava/util/Comparator;") ∈ lw_all := lw_g (lw_at lw_m2 21 rfl) rfl
theorem q317 : (Jvm.Cond.soleField "java/util/PriorityQueue" "comparator") ∈ lw_all := lw_g (lw_at lw_m2 22 rfl) rfl
theorem q318 : (Jvm.Cond.lays "java/util/PriorityQueue" "java/util/PriorityQueue" "modCount" "I") ∈ lw_all := lw_g (lw_at lw_m2 23 rfl) rfl
theorem q319 : (Jvm.Cond.soleField "java/util/PriorityQueue" "modCount") ∈ lw_all := lw_g (lw_at lw_m2 24 rfl) rfl
theorem q320 : (Jvm.Cond.superclass "java/util/PriorityQueue" "java/util/AbstractQueue") ∈ lw_all := lw_g (lw_at lw_m2 25 rfl) rfl
theorem q514 : (Jvm.Cond.instanceMethod ({ cls := "java/util/PriorityQueue", name := "clear", desc := "()V" } : Jvm.MethodName)) ∈ lw_all := lw_g (lw_at lw_m2 219 rfl) rfl
theorem q515 : (Jvm.Cond.selects "java/util/PriorityQueue" ({ cls := "java/util/PriorityQueue", name := "clear", desc := "()V" } : Jvm.MethodName) ({ cls := "java/util/PriorityQueue", name := "clear", desc := "()V" } : Jvm.MethodName)) ∈ lw_all := lw_g (lw_at lw_m2 220 rfl) rfl
theorem q516 : (Jvm.Cond.code ({ cls := "java/util/PriorityQueue", name := "clear", desc := "()V" } : Jvm.MethodName) prog_46_method_24_code (4 : Nat) (Option.none : Option Jvm.ClassFile.FieldType)) ∈ lw_all := lw_g (lw_at lw_m2 221 rfl) rfl
theorem q603 : (Jvm.Cond.instanceMethod ({ cls := "java/util/PriorityQueue", name := "offer", desc := "(Ljava/lang/Object;)Z" } : Jvm.MethodName)) ∈ lw_all := lw_g (lw_at lw_m3 68 rfl) rfl
theorem q604 : (Jvm.Cond.selects "java/util/PriorityQueue" ({ cls := "java/util/PriorityQueue", name := "offer", desc := "(Ljava/lang/Object;)Z" } : Jvm.MethodName) ({ cls := "java/util/PriorityQueue", name := "offer", desc := "(Ljava/lang/Object;)Z" } : Jvm.MethodName)) ∈ lw_all := lw_g (lw_at lw_m3 69 rfl) rfl
theorem q605 : (Jvm.Cond.code ({ cls := "java/util/PriorityQueue", name := "offer", desc := "(Ljava/lang/Object;)Z" } : Jvm.MethodName) prog_46_method_14_code (3 : Nat) (Option.some Jvm.ClassFile.FieldType.boolean)) ∈ lw_all := lw_g (lw_at lw_m3 70 rfl) rfl
theorem q606 : (Jvm.Cond.methodLink "java/util/PriorityQueue" (96 : Nat) ({ cls := "java/util/PriorityQueue", name := "grow", desc := "(I)V" } : Jvm.MethodName)) ∈ lw_all := lw_g (lw_at lw_m3 71 rfl) rfl
theorem q607 : (Jvm.Cond.privateMethod ({ cls := "java/util/PriorityQueue", name := "grow", desc := "(I)V" } : Jvm.MethodName)) ∈ lw_tbl := lw_at lw_m3 72 rfl
theorem q608 : (Jvm.Cond.instanceMethod ({ cls := "java/util/PriorityQueue", name := "grow", desc := "(I)V" } : Jvm.MethodName)) ∈ lw_all := lw_g (lw_at lw_m3 73 rfl) rfl
theorem q609 : (Jvm.Cond.code ({ cls := "java/util/PriorityQueue", name := "grow", desc := "(I)V" } : Jvm.MethodName) prog_46_method_12_code (4 : Nat) (Option.none : Option Jvm.ClassFile.FieldType)) ∈ lw_all := lw_g (lw_at lw_m3 74 rfl) rfl
theorem q610 : (Jvm.Cond.methodLink "java/util/PriorityQueue" (80 : Nat) ({ cls := "jdk/internal/util/ArraysSupport", name := "newLength", desc := "(III)I" } : Jvm.MethodName)) ∈ lw_all := lw_g (lw_at lw_m3 75 rfl) rfl
theorem q611 : (Jvm.Cond.methodLink "java/util/PriorityQueue" (86 : Nat) ({ cls := "java/util/Arrays", name := "copyOf", desc := "([Ljava/lang/Object;I)[Ljava/lang/Object;" } : Jvm.MethodName)) ∈ lw_all := lw_g (lw_at lw_m3 76 rfl) rfl
theorem q612 : (Jvm.Cond.methodLink "java/util/PriorityQueue" (100 : Nat) ({ cls := "java/util/PriorityQueue", name := "siftUp", desc := "(ILjava/lang/Object;)V" } : Jvm.MethodName)) ∈ lw_all := lw_g (lw_at lw_m3 77 rfl) rfl
theorem q613 : (Jvm.Cond.privateMethod ({ cls := "java/util/PriorityQueue", name := "siftUp", desc := "(ILjava/lang/Object;)V" } : Jvm.MethodName)) ∈ lw_tbl := lw_at lw_m3 78 rfl
theorem q614 : (Jvm.Cond.instanceMethod ({ cls := "java/util/PriorityQueue", name := "siftUp", desc := "(ILjava/lang/Object;)V" } : Jvm.MethodName)) ∈ lw_all := lw_g (lw_at lw_m3 79 rfl) rfl
theorem q615 : (Jvm.Cond.code ({ cls := "java/util/PriorityQueue", name := "siftUp", desc := "(ILjava/lang/Object;)V" } : Jvm.MethodName) prog_46_method_27_code (3 : Nat) (Option.none : Option Jvm.ClassFile.FieldType)) ∈ lw_all := lw_g (lw_at lw_m3 80 rfl) rfl
theorem q616 : (Jvm.Cond.methodLink "java/util/PriorityQueue" (136 : Nat) ({ cls := "java/util/PriorityQueue", name := "siftUpUsingComparator", desc := "(ILjava/lang/Object;[Ljava/lang/Object;Ljava/util/Comparator;)V" } : Jvm.MethodName)) ∈ lw_all := lw_g (lw_at lw_m3 81 rfl) rfl
theorem q617 : (Jvm.Cond.static ({ cls := "java/util/PriorityQueue", name := "siftUpUsingComparator", desc := "(ILjava/lang/Object;[Ljava/lang/Object;Ljava/util/Comparator;)V" } : Jvm.MethodName)) ∈ lw_all := lw_g (lw_at lw_m3 82 rfl) rfl
theorem q618 : (Jvm.Cond.code ({ cls := "java/util/PriorityQueue", name := "siftUpUsingComparator", desc := "(ILjava/lang/Object;[Ljava/lang/Object;Ljava/util/Comparator;)V" } : Jvm.MethodName) prog_46_method_29_code (6 : Nat) (Option.none : Option Jvm.ClassFile.FieldType)) ∈ lw_all := lw_g (lw_at lw_m3 83 rfl) rfl
theorem q619 : (Jvm.Cond.interfaceEntry "java/util/PriorityQueue" (149 : Nat)) ∈ lw_tbl := lw_at lw_m3 84 rfl
theorem q620 : (Jvm.Cond.methodLink "java/util/PriorityQueue" (149 : Nat) ({ cls := "java/util/Comparator", name := "compare", desc := "(Ljava/lang/Object;Ljava/lang/Object;)I" } : Jvm.MethodName)) ∈ lw_all := lw_g (lw_at lw_m3 85 rfl) rfl
theorem q649 : (Jvm.Cond.methodLink "java/util/PriorityQueue" (140 : Nat) ({ cls := "java/util/PriorityQueue", name := "siftUpComparable", desc := "(ILjava/lang/Object;[Ljava/lang/Object;)V" } : Jvm.MethodName)) ∈ lw_all := lw_g (lw_at lw_m3 114 rfl) rfl
theorem q650 : (Jvm.Cond.static ({ cls := "java/util/PriorityQueue", name := "siftUpComparable", desc := "(ILjava/lang/Object;[Ljava/lang/Object;)V" } : Jvm.MethodName)) ∈ lw_all := lw_g (lw_at lw_m3 115 rfl) rfl
theorem q651 : (Jvm.Cond.code ({ cls := "java/util/PriorityQueue", name := "siftUpComparable", desc := "(ILjava/lang/Object;[Ljava/lang/Object;)V" } : Jvm.MethodName) prog_46_method_28_code (6 : Nat) (Option.none : Option Jvm.ClassFile.FieldType)) ∈ lw_all := lw_g (lw_at lw_m3 116 rfl) rfl
theorem q652 : (Jvm.Cond.classLink "java/util/PriorityQueue" (144 : Nat) "java/lang/Comparable") ∈ lw_all := lw_g (lw_at lw_m3 117 rfl) rfl
theorem q653 : (Jvm.Cond.interfaceEntry "java/util/PriorityQueue" (146 : Nat)) ∈ lw_tbl := lw_at lw_m3 118 rfl
theorem q654 : (Jvm.Cond.methodLink "java/util/PriorityQueue" (146 : Nat) ({ cls := "java/lang/Comparable", name := "compareTo", desc := "(Ljava/lang/Object;)I" } : Jvm.MethodName)) ∈ lw_all := lw_g (lw_at lw_m3 119 rfl) rfl
theorem q882 : (Jvm.Cond.instanceMethod ({ cls := "java/util/PriorityQueue", name := "poll", desc := "()Ljava/lang/Object;" } : Jvm.MethodName)) ∈ lw_all := lw_g (lw_at lw_m4 107 rfl) rfl
theorem q883 : (Jvm.Cond.selects "java/util/PriorityQueue" ({ cls := "java/util/PriorityQueue", name := "poll", desc := "()Ljava/lang/Object;" } : Jvm.MethodName) ({ cls := "java/util/PriorityQueue", name := "poll", desc := "()Ljava/lang/Object;" } : Jvm.MethodName)) ∈ lw_all := lw_g (lw_at lw_m4 108 rfl) rfl
theorem q884 : (Jvm.Cond.code ({ cls := "java/util/PriorityQueue", name := "poll", desc := "()Ljava/lang/Object;" } : Jvm.MethodName) prog_46_method_25_code (6 : Nat) (Option.some (Jvm.ClassFile.FieldType.object "java/lang/Object"))) ∈ lw_all := lw_g (lw_at lw_m4 109 rfl) rfl
theorem q885 : (Jvm.Cond.methodLink "java/util/PriorityQueue" (125 : Nat) ({ cls := "java/util/PriorityQueue", name := "siftDownComparable", desc := "(ILjava/lang/Object;[Ljava/lang/Object;I)V" } : Jvm.MethodName)) ∈ lw_all := lw_g (lw_at lw_m4 110 rfl) rfl
theorem q886 : (Jvm.Cond.static ({ cls := "java/util/PriorityQueue", name := "siftDownComparable", desc := "(ILjava/lang/Object;[Ljava/lang/Object;I)V" } : Jvm.MethodName)) ∈ lw_all := lw_g (lw_at lw_m4 111 rfl) rfl
theorem q887 : (Jvm.Cond.code ({ cls := "java/util/PriorityQueue", name := "siftDownComparable", desc := "(ILjava/lang/Object;[Ljava/lang/Object;I)V" } : Jvm.MethodName) prog_46_method_31_code (9 : Nat) (Option.none : Option Jvm.ClassFile.FieldType)) ∈ lw_all := lw_g (lw_at lw_m4 112 rfl) rfl
theorem q888 : (Jvm.Cond.methodLink "java/util/PriorityQueue" (129 : Nat) ({ cls := "java/util/PriorityQueue", name := "siftDownUsingComparator", desc := "(ILjava/lang/Object;[Ljava/lang/Object;ILjava/util/Comparator;)V" } : Jvm.MethodName)) ∈ lw_all := lw_g (lw_at lw_m4 113 rfl) rfl
theorem q889 : (Jvm.Cond.static ({ cls := "java/util/PriorityQueue", name := "siftDownUsingComparator", desc := "(ILjava/lang/Object;[Ljava/lang/Object;ILjava/util/Comparator;)V" } : Jvm.MethodName)) ∈ lw_all := lw_g (lw_at lw_m4 114 rfl) rfl
theorem q890 : (Jvm.Cond.code ({ cls := "java/util/PriorityQueue", name := "siftDownUsingComparator", desc := "(ILjava/lang/Object;[Ljava/lang/Object;ILjava/util/Comparator;)V" } : Jvm.MethodName) prog_46_method_32_code (9 : Nat) (Option.none : Option Jvm.ClassFile.FieldType)) ∈ lw_all := lw_g (lw_at lw_m4 115 rfl) rfl
theorem q1485 : (Jvm.Cond.instanceMethod ({ cls := "java/util/PriorityQueue", name := "size", desc := "()I" } : Jvm.MethodName)) ∈ lw_all := lw_g (lw_at lw_m6 230 rfl) rfl
theorem q1486 : (Jvm.Cond.selects "java/util/PriorityQueue" ({ cls := "java/util/PriorityQueue", name := "size", desc := "()I" } : Jvm.MethodName) ({ cls := "java/util/PriorityQueue", name := "size", desc := "()I" } : Jvm.MethodName)) ∈ lw_all := lw_g (lw_at lw_m6 231 rfl) rfl
theorem q1487 : (Jvm.Cond.code ({ cls := "java/util/PriorityQueue", name := "size", desc := "()I" } : Jvm.MethodName) prog_46_method_23_code (1 : Nat) (Option.some Jvm.ClassFile.FieldType.int)) ∈ lw_all := lw_g (lw_at lw_m6 232 rfl) rfl
theorem q1491 : (Jvm.Cond.instanceMethod ({ cls := "java/util/PriorityQueue", name := "peek", desc := "()Ljava/lang/Object;" } : Jvm.MethodName)) ∈ lw_all := lw_g (lw_at lw_m6 236 rfl) rfl
theorem q1492 : (Jvm.Cond.selects "java/util/PriorityQueue" ({ cls := "java/util/PriorityQueue", name := "peek", desc := "()Ljava/lang/Object;" } : Jvm.MethodName) ({ cls := "java/util/PriorityQueue", name := "peek", desc := "()Ljava/lang/Object;" } : Jvm.MethodName)) ∈ lw_all := lw_g (lw_at lw_m6 237 rfl) rfl
theorem q1493 : (Jvm.Cond.code ({ cls := "java/util/PriorityQueue", name := "peek", desc := "()Ljava/lang/Object;" } : Jvm.MethodName) prog_46_method_15_code (1 : Nat) (Option.some (Jvm.ClassFile.FieldType.object "java/lang/Object"))) ∈ lw_all := lw_g (lw_at lw_m6 238 rfl) rfl
theorem q1886 : (Jvm.Cond.castable "java/util/PriorityQueue" "java/lang/Object") ∈ lw_tbl := lw_at lw_m8 151 rfl
theorem in_J9 : ∀ w ∈ wsJ90, w ∈ lw_all := lw_in wsJ90 [312, 314, 316, 318] (by decide +kernel) (by decide +kernel)

/-! java/lang/Throwable -/
set_option maxRecDepth 100000
def RJ10 : String := "java/lang/Throwable"
def TJ10 : u_T := fun k => match k with
  | 0 => ("java/lang/Throwable", "cause", "Ljava/lang/Throwable;", false)
  | 1 => ("java/lang/Throwable", "stackTrace", "[Ljava/lang/StackTraceElement;", false)
  | 2 => ("java/lang/Throwable", "suppressedExceptions", "Ljava/util/List;", false)
  | 3 => ("java/lang/Throwable", "detailMessage", "Ljava/lang/String;", false)
  | _ => ("java/lang/Throwable", "backtrace", "Ljava/lang/Object;", false)
def tyJ10 : Nat → FieldType := fun k => match k with
  | 0 => .object "java/lang/Throwable"
  | 1 => .array (.object "java/lang/StackTraceElement")
  | 2 => .object "java/util/List"
  | 3 => .object "java/lang/String"
  | _ => .object "java/lang/Object"
abbrev wsJ100 : List Cond := u_ws RJ10 TJ10 5
theorem nmJ10 : ∀ a, a < 5 → ∀ b, b < 5 → a ≠ b → (TJ10 a).2.1 ≠ (TJ10 b).2.1 := by decide +kernel
theorem tyJ10_ok : ∀ k, k < 5 → parseFieldDescriptor (TJ10 k).2.2.1 = some (tyJ10 k) := by decide +kernel
abbrev cJ10_init : ByteArray := prog_31_method_1_code
def yJ10_init : MethodName := ⟨RJ10, "<init>", "()V"⟩
def dkwJ10_init_1 : List UInt8 := [182, 0, 27, 87, 177]
abbrev dktJ10_init_1 : List UInt8 := dkwJ10_init_1 ++ []
def dkwJ10_init_0 : List UInt8 := [42, 183, 0, 1, 42, 42, 181, 0, 7, 42, 178, 0, 13, 181, 0, 17, 42, 178, 0, 20, 181, 0, 24, 42]
abbrev dktJ10_init_0 : List UInt8 := dkwJ10_init_0 ++ dktJ10_init_1
theorem dksJ10_init_0 : cJ10_init.data.toList.drop 0 = dktJ10_init_0 := by decide +kernel
theorem dksJ10_init_1 : cJ10_init.data.toList.drop 24 = dktJ10_init_1 := dk_seg dksJ10_init_0 24 rfl rfl
theorem dJ10_init_0 : decode cJ10_init 0 = .ok (.aload_n 0, 1) := dk_42 (dk_at dksJ10_init_0 0 rfl rfl)
theorem dJ10_init_1 : decode cJ10_init 1 = .ok (.invokespecial 1, 3) := dk_183 0 1 (dk_at dksJ10_init_0 1 rfl rfl)
theorem dJ10_init_4 : decode cJ10_init 4 = .ok (.aload_n 0, 1) := dk_42 (dk_at dksJ10_init_0 4 rfl rfl)
theorem dJ10_init_5 : decode cJ10_init 5 = .ok (.aload_n 0, 1) := dk_42 (dk_at dksJ10_init_0 5 rfl rfl)
theorem dJ10_init_6 : decode cJ10_init 6 = .ok (.putfield 7, 3) := dk_181 0 7 (dk_at dksJ10_init_0 6 rfl rfl)
theorem dJ10_init_9 : decode cJ10_init 9 = .ok (.aload_n 0, 1) := dk_42 (dk_at dksJ10_init_0 9 rfl rfl)
theorem dJ10_init_10 : decode cJ10_init 10 = .ok (.getstatic 13, 3) := dk_178 0 13 (dk_at dksJ10_init_0 10 rfl rfl)
theorem dJ10_init_13 : decode cJ10_init 13 = .ok (.putfield 17, 3) := dk_181 0 17 (dk_at dksJ10_init_0 13 rfl rfl)
theorem dJ10_init_16 : decode cJ10_init 16 = .ok (.aload_n 0, 1) := dk_42 (dk_at dksJ10_init_0 16 rfl rfl)
theorem dJ10_init_17 : decode cJ10_init 17 = .ok (.getstatic 20, 3) := dk_178 0 20 (dk_at dksJ10_init_0 17 rfl rfl)
theorem dJ10_init_20 : decode cJ10_init 20 = .ok (.putfield 24, 3) := dk_181 0 24 (dk_at dksJ10_init_0 20 rfl rfl)
theorem dJ10_init_23 : decode cJ10_init 23 = .ok (.aload_n 0, 1) := dk_42 (dk_at dksJ10_init_0 23 rfl rfl)
theorem dJ10_init_24 : decode cJ10_init 24 = .ok (.invokevirtual 27, 3) := dk_182 0 27 (dk_at dksJ10_init_1 0 rfl rfl)
theorem dJ10_init_27 : decode cJ10_init 27 = .ok (.pop, 1) := dk_87 (dk_at dksJ10_init_1 3 rfl rfl)
theorem dJ10_init_28 : decode cJ10_init 28 = .ok (.return_, 1) := dk_177 (dk_at dksJ10_init_1 4 rfl rfl)
abbrev cJ10_init_2 : ByteArray := prog_31_method_2_code
def yJ10_init_2 : MethodName := ⟨RJ10, "<init>", "(Ljava/lang/String;)V"⟩
def dkwJ10_init_2_1 : List UInt8 := [182, 0, 27, 87, 42, 43, 181, 0, 31, 177]
abbrev dktJ10_init_2_1 : List UInt8 := dkwJ10_init_2_1 ++ []
def dkwJ10_init_2_0 : List UInt8 := [42, 183, 0, 1, 42, 42, 181, 0, 7, 42, 178, 0, 13, 181, 0, 17, 42, 178, 0, 20, 181, 0, 24, 42]
abbrev dktJ10_init_2_0 : List UInt8 := dkwJ10_init_2_0 ++ dktJ10_init_2_1
theorem dksJ10_init_2_0 : cJ10_init_2.data.toList.drop 0 = dktJ10_init_2_0 := by decide +kernel
theorem dksJ10_init_2_1 : cJ10_init_2.data.toList.drop 24 = dktJ10_init_2_1 := dk_seg dksJ10_init_2_0 24 rfl rfl
theorem dJ10_init_2_0 : decode cJ10_init_2 0 = .ok (.aload_n 0, 1) := dk_42 (dk_at dksJ10_init_2_0 0 rfl rfl)
theorem dJ10_init_2_1 : decode cJ10_init_2 1 = .ok (.invokespecial 1, 3) := dk_183 0 1 (dk_at dksJ10_init_2_0 1 rfl rfl)
theorem dJ10_init_2_4 : decode cJ10_init_2 4 = .ok (.aload_n 0, 1) := dk_42 (dk_at dksJ10_init_2_0 4 rfl rfl)
theorem dJ10_init_2_5 : decode cJ10_init_2 5 = .ok (.aload_n 0, 1) := dk_42 (dk_at dksJ10_init_2_0 5 rfl rfl)
theorem dJ10_init_2_6 : decode cJ10_init_2 6 = .ok (.putfield 7, 3) := dk_181 0 7 (dk_at dksJ10_init_2_0 6 rfl rfl)
theorem dJ10_init_2_9 : decode cJ10_init_2 9 = .ok (.aload_n 0, 1) := dk_42 (dk_at dksJ10_init_2_0 9 rfl rfl)
theorem dJ10_init_2_10 : decode cJ10_init_2 10 = .ok (.getstatic 13, 3) := dk_178 0 13 (dk_at dksJ10_init_2_0 10 rfl rfl)
theorem dJ10_init_2_13 : decode cJ10_init_2 13 = .ok (.putfield 17, 3) := dk_181 0 17 (dk_at dksJ10_init_2_0 13 rfl rfl)
theorem dJ10_init_2_16 : decode cJ10_init_2 16 = .ok (.aload_n 0, 1) := dk_42 (dk_at dksJ10_init_2_0 16 rfl rfl)
theorem dJ10_init_2_17 : decode cJ10_init_2 17 = .ok (.getstatic 20, 3) := dk_178 0 20 (dk_at dksJ10_init_2_0 17 rfl rfl)
theorem dJ10_init_2_20 : decode cJ10_init_2 20 = .ok (.putfield 24, 3) := dk_181 0 24 (dk_at dksJ10_init_2_0 20 rfl rfl)
theorem dJ10_init_2_23 : decode cJ10_init_2 23 = .ok (.aload_n 0, 1) := dk_42 (dk_at dksJ10_init_2_0 23 rfl rfl)
theorem dJ10_init_2_24 : decode cJ10_init_2 24 = .ok (.invokevirtual 27, 3) := dk_182 0 27 (dk_at dksJ10_init_2_1 0 rfl rfl)
theorem dJ10_init_2_27 : decode cJ10_init_2 27 = .ok (.pop, 1) := dk_87 (dk_at dksJ10_init_2_1 3 rfl rfl)
theorem dJ10_init_2_28 : decode cJ10_init_2 28 = .ok (.aload_n 0, 1) := dk_42 (dk_at dksJ10_init_2_1 4 rfl rfl)
theorem dJ10_init_2_29 : decode cJ10_init_2 29 = .ok (.aload_n 1, 1) := dk_43 (dk_at dksJ10_init_2_1 5 rfl rfl)
theorem dJ10_init_2_30 : decode cJ10_init_2 30 = .ok (.putfield 31, 3) := dk_181 0 31 (dk_at dksJ10_init_2_1 6 rfl rfl)
theorem dJ10_init_2_33 : decode cJ10_init_2 33 = .ok (.return_, 1) := dk_177 (dk_at dksJ10_init_2_1 9 rfl rfl)
theorem q70 : (Jvm.Cond.initialized "java/lang/Throwable") ∈ lw_all := lw_g (lw_at lw_m1 15 rfl) rfl
theorem q248 : (Jvm.Cond.declares ({ cls := "java/lang/Throwable", name := "<init>", desc := "()V" } : Jvm.MethodName)) ∈ lw_tbl := lw_at lw_m1 193 rfl
theorem q249 : (Jvm.Cond.declares ({ cls := "java/lang/Throwable", name := "<init>", desc := "(Ljava/lang/String;)V" } : Jvm.MethodName)) ∈ lw_tbl := lw_at lw_m1 194 rfl
theorem q253 : (Jvm.Cond.lays "java/lang/Throwable" "java/lang/Throwable" "cause" "Ljava/lang/Throwable;") ∈ lw_all := lw_g (lw_at lw_m1 198 rfl) rfl
theorem q255 : (Jvm.Cond.lays "java/lang/Throwable" "java/lang/Throwable" "stackTrace" "[Ljava/lang/StackTraceElement;") ∈ lw_all := lw_g (lw_at lw_m1 200 rfl) rfl
theorem q257 : (Jvm.Cond.lays "java/lang/Throwable" "java/lang/Throwable" "suppressedExceptions" "Ljava/util/List;") ∈ lw_all := lw_g (lw_at lw_m1 202 rfl) rfl
theorem q259 : (Jvm.Cond.lays "java/lang/Throwable" "java/lang/Throwable" "detailMessage" "Ljava/lang/String;") ∈ lw_all := lw_g (lw_at lw_m1 204 rfl) rfl
theorem q261 : (Jvm.Cond.lays "java/lang/Throwable" "java/lang/Throwable" "backtrace" "Ljava/lang/Object;") ∈ lw_all := lw_g (lw_at lw_m1 206 rfl) rfl
theorem q262 : (Jvm.Cond.fieldLink "java/lang/Throwable" (198 : Nat) "java/lang/Throwable" "backtrace" "Ljava/lang/Object;") ∈ lw_all := lw_g (lw_at lw_m1 207 rfl) rfl
theorem q263 : (Jvm.Cond.superclass "java/lang/Throwable" "java/lang/Object") ∈ lw_all := lw_g (lw_at lw_m1 208 rfl) rfl
theorem q264 : (Jvm.Cond.instanceMethod ({ cls := "java/lang/Throwable", name := "<init>", desc := "()V" } : Jvm.MethodName)) ∈ lw_all := lw_g (lw_at lw_m1 209 rfl) rfl
theorem q265 : (Jvm.Cond.code ({ cls := "java/lang/Throwable", name := "<init>", desc := "()V" } : Jvm.MethodName) prog_31_method_1_code (1 : Nat) (Option.none : Option Jvm.ClassFile.FieldType)) ∈ lw_all := lw_g (lw_at lw_m1 210 rfl) rfl
theorem q266 : (Jvm.Cond.methodLink "java/lang/Throwable" (1 : Nat) ({ cls := "java/lang/Object", name := "<init>", desc := "()V" } : Jvm.MethodName)) ∈ lw_all := lw_g (lw_at lw_m1 211 rfl) rfl
theorem q267 : (Jvm.Cond.fieldLink "java/lang/Throwable" (13 : Nat) "java/lang/Throwable" "UNASSIGNED_STACK" "[Ljava/lang/StackTraceElement;") ∈ lw_all := lw_g (lw_at lw_m1 212 rfl) rfl
theorem q268 : (Jvm.Cond.laysStatic "java/lang/Throwable" "UNASSIGNED_STACK" "[Ljava/lang/StackTraceElement;") ∈ lw_tbl := lw_at lw_m1 213 rfl
theorem q269 : (Jvm.Cond.fieldLink "java/lang/Throwable" (20 : Nat) "java/lang/Throwable" "SUPPRESSED_SENTINEL" "Ljava/util/List;") ∈ lw_all := lw_g (lw_at lw_m1 214 rfl) rfl
theorem q270 : (Jvm.Cond.laysStatic "java/lang/Throwable" "SUPPRESSED_SENTINEL" "Ljava/util/List;") ∈ lw_tbl := lw_at lw_m1 215 rfl
theorem q271 : (Jvm.Cond.methodLink "java/lang/Throwable" (27 : Nat) ({ cls := "java/lang/Throwable", name := "fillInStackTrace", desc := "()Ljava/lang/Throwable;" } : Jvm.MethodName)) ∈ lw_all := lw_g (lw_at lw_m1 216 rfl) rfl
theorem q272 : (Jvm.Cond.instanceMethod ({ cls := "java/lang/Throwable", name := "fillInStackTrace", desc := "()Ljava/lang/Throwable;" } : Jvm.MethodName)) ∈ lw_all := lw_g (lw_at lw_m1 217 rfl) rfl
theorem q273 : (Jvm.Cond.sameMethod "java/lang/Throwable" "java/lang/Throwable" "fillInStackTrace" "()Ljava/lang/Throwable;") ∈ lw_all := lw_g (lw_at lw_m1 218 rfl) rfl
theorem q278 : (Jvm.Cond.codeSync ({ cls := "java/lang/Throwable", name := "fillInStackTrace", desc := "()Ljava/lang/Throwable;" } : Jvm.MethodName) prog_31_method_18_code (1 : Nat) (Option.some (Jvm.ClassFile.FieldType.object "java/lang/Throwable"))) ∈ lw_all := lw_g (lw_at lw_m1 223 rfl) rfl
theorem q279 : (Jvm.Cond.methodLink "java/lang/Throwable" (202 : Nat) ({ cls := "java/lang/Throwable", name := "fillInStackTrace", desc := "(I)Ljava/lang/Throwable;" } : Jvm.MethodName)) ∈ lw_all := lw_g (lw_at lw_m1 224 rfl) rfl
theorem q280 : (Jvm.Cond.privateMethod ({ cls := "java/lang/Throwable", name := "fillInStackTrace", desc := "(I)Ljava/lang/Throwable;" } : Jvm.MethodName)) ∈ lw_tbl := lw_at lw_m1 225 rfl
theorem q281 : (Jvm.Cond.instanceMethod ({ cls := "java/lang/Throwable", name := "fillInStackTrace", desc := "(I)Ljava/lang/Throwable;" } : Jvm.MethodName)) ∈ lw_all := lw_g (lw_at lw_m1 226 rfl) rfl
theorem q282 : (Jvm.Cond.instantiable "java/lang/Throwable" (6 : Nat)) ∈ lw_all := lw_g (lw_at lw_m1 227 rfl) rfl
theorem q283 : (Jvm.Cond.native ({ cls := "java/lang/Throwable", name := "fillInStackTrace", desc := "(I)Ljava/lang/Throwable;" } : Jvm.MethodName)) ∈ lw_all := lw_g (lw_at lw_m1 228 rfl) rfl
theorem q294 : (Jvm.Cond.fieldLink "java/lang/Throwable" (198 : Nat) "java/lang/Throwable" "backtrace" "Ljava/lang/Object;") ∈ lw_all := lw_g (lw_at lw_m1 239 rfl) rfl
theorem q295 : (Jvm.Cond.fieldLink "java/lang/Throwable" (31 : Nat) "java/lang/Throwable" "detailMessage" "Ljava/lang/String;") ∈ lw_all := lw_g (lw_at lw_m2 0 rfl) rfl
theorem q296 : (Jvm.Cond.fieldLink "java/lang/Throwable" (7 : Nat) "java/lang/Throwable" "cause" "Ljava/lang/Throwable;") ∈ lw_all := lw_g (lw_at lw_m2 1 rfl) rfl
theorem q297 : (Jvm.Cond.fieldLink "java/lang/Throwable" (17 : Nat) "java/lang/Throwable" "stackTrace" "[Ljava/lang/StackTraceElement;") ∈ lw_all := lw_g (lw_at lw_m2 2 rfl) rfl
theorem q298 : (Jvm.Cond.fieldLink "java/lang/Throwable" (24 : Nat) "java/lang/Throwable" "suppressedExceptions" "Ljava/util/List;") ∈ lw_all := lw_g (lw_at lw_m2 3 rfl) rfl
theorem q299 : (Jvm.Cond.soleField "java/lang/Throwable" "backtrace") ∈ lw_all := lw_g (lw_at lw_m2 4 rfl) rfl
theorem q300 : (Jvm.Cond.soleField "java/lang/Throwable" "detailMessage") ∈ lw_all := lw_g (lw_at lw_m2 5 rfl) rfl
theorem q301 : (Jvm.Cond.soleField "java/lang/Throwable" "cause") ∈ lw_all := lw_g (lw_at lw_m2 6 rfl) rfl
theorem q302 : (Jvm.Cond.soleField "java/lang/Throwable" "stackTrace") ∈ lw_all := lw_g (lw_at lw_m2 7 rfl) rfl
theorem q304 : (Jvm.Cond.soleField "java/lang/Throwable" "depth") ∈ lw_all := lw_g (lw_at lw_m2 9 rfl) rfl
theorem q305 : (Jvm.Cond.soleField "java/lang/Throwable" "suppressedExceptions") ∈ lw_all := lw_g (lw_at lw_m2 10 rfl) rfl
theorem q1022 : (Jvm.Cond.instanceMethod ({ cls := "java/lang/Throwable", name := "<init>", desc := "(Ljava/lang/String;)V" } : Jvm.MethodName)) ∈ lw_all := lw_g (lw_at lw_m5 7 rfl) rfl
theorem q1023 : (Jvm.Cond.code ({ cls := "java/lang/Throwable", name := "<init>", desc := "(Ljava/lang/String;)V" } : Jvm.MethodName) prog_31_method_2_code (2 : Nat) (Option.none : Option Jvm.ClassFile.FieldType)) ∈ lw_all := lw_g (lw_at lw_m5 8 rfl) rfl
theorem q1871 : (Jvm.Cond.sameMethod "java/lang/Throwable" "java/lang/Throwable" "fillInStackTrace" "(I)Ljava/lang/Throwable;") ∈ lw_all := lw_g (lw_at lw_m8 136 rfl) rfl
theorem q1901 : (Jvm.Cond.castable "java/lang/Throwable" "java/lang/Object") ∈ lw_tbl := lw_at lw_m8 166 rfl
theorem in_J10 : ∀ w ∈ wsJ100, w ∈ lw_all := lw_in wsJ100 [253, 255, 257, 259, 261] (by decide +kernel) (by decide +kernel)

/-! java/lang/Exception -/
set_option maxRecDepth 100000
def RJ11 : String := "java/lang/Exception"
abbrev cJ11_init : ByteArray := prog_15_method_1_code
def yJ11_init : MethodName := ⟨RJ11, "<init>", "()V"⟩
theorem dJ11_init_0 : decode cJ11_init 0 = .ok (.aload_n 0, 1) := by decide +kernel
theorem dJ11_init_1 : decode cJ11_init 1 = .ok (.invokespecial 1, 3) := by decide +kernel
theorem dJ11_init_4 : decode cJ11_init 4 = .ok (.return_, 1) := by decide +kernel
abbrev cJ11_init_2 : ByteArray := prog_15_method_2_code
def yJ11_init_2 : MethodName := ⟨RJ11, "<init>", "(Ljava/lang/String;)V"⟩
def dkwJ11_init_2_0 : List UInt8 := [42, 43, 183, 0, 7, 177]
abbrev dktJ11_init_2_0 : List UInt8 := dkwJ11_init_2_0 ++ []
theorem dksJ11_init_2_0 : cJ11_init_2.data.toList.drop 0 = dktJ11_init_2_0 := by decide +kernel
theorem dJ11_init_2_0 : decode cJ11_init_2 0 = .ok (.aload_n 0, 1) := dk_42 (dk_at dksJ11_init_2_0 0 rfl rfl)
theorem dJ11_init_2_1 : decode cJ11_init_2 1 = .ok (.aload_n 1, 1) := dk_43 (dk_at dksJ11_init_2_0 1 rfl rfl)
theorem dJ11_init_2_2 : decode cJ11_init_2 2 = .ok (.invokespecial 7, 3) := dk_183 0 7 (dk_at dksJ11_init_2_0 2 rfl rfl)
theorem dJ11_init_2_5 : decode cJ11_init_2 5 = .ok (.return_, 1) := dk_177 (dk_at dksJ11_init_2_0 5 rfl rfl)
theorem q71 : (Jvm.Cond.initialized "java/lang/Exception") ∈ lw_all := lw_g (lw_at lw_m1 16 rfl) rfl
theorem q246 : (Jvm.Cond.declares ({ cls := "java/lang/Exception", name := "<init>", desc := "()V" } : Jvm.MethodName)) ∈ lw_tbl := lw_at lw_m1 191 rfl
theorem q247 : (Jvm.Cond.declares ({ cls := "java/lang/Exception", name := "<init>", desc := "(Ljava/lang/String;)V" } : Jvm.MethodName)) ∈ lw_tbl := lw_at lw_m1 192 rfl
theorem q291 : (Jvm.Cond.instanceMethod ({ cls := "java/lang/Exception", name := "<init>", desc := "()V" } : Jvm.MethodName)) ∈ lw_all := lw_g (lw_at lw_m1 236 rfl) rfl
theorem q292 : (Jvm.Cond.code ({ cls := "java/lang/Exception", name := "<init>", desc := "()V" } : Jvm.MethodName) prog_15_method_1_code (1 : Nat) (Option.none : Option Jvm.ClassFile.FieldType)) ∈ lw_all := lw_g (lw_at lw_m1 237 rfl) rfl
theorem q293 : (Jvm.Cond.methodLink "java/lang/Exception" (1 : Nat) ({ cls := "java/lang/Throwable", name := "<init>", desc := "()V" } : Jvm.MethodName)) ∈ lw_all := lw_g (lw_at lw_m1 238 rfl) rfl
theorem q1019 : (Jvm.Cond.instanceMethod ({ cls := "java/lang/Exception", name := "<init>", desc := "(Ljava/lang/String;)V" } : Jvm.MethodName)) ∈ lw_all := lw_g (lw_at lw_m5 4 rfl) rfl
theorem q1020 : (Jvm.Cond.code ({ cls := "java/lang/Exception", name := "<init>", desc := "(Ljava/lang/String;)V" } : Jvm.MethodName) prog_15_method_2_code (2 : Nat) (Option.none : Option Jvm.ClassFile.FieldType)) ∈ lw_all := lw_g (lw_at lw_m5 5 rfl) rfl
theorem q1021 : (Jvm.Cond.methodLink "java/lang/Exception" (7 : Nat) ({ cls := "java/lang/Throwable", name := "<init>", desc := "(Ljava/lang/String;)V" } : Jvm.MethodName)) ∈ lw_all := lw_g (lw_at lw_m5 6 rfl) rfl

/-! java/lang/RuntimeException -/
set_option maxRecDepth 100000
def RJ12 : String := "java/lang/RuntimeException"
abbrev cJ12_init : ByteArray := prog_25_method_1_code
def yJ12_init : MethodName := ⟨RJ12, "<init>", "()V"⟩
theorem dJ12_init_0 : decode cJ12_init 0 = .ok (.aload_n 0, 1) := by decide +kernel
theorem dJ12_init_1 : decode cJ12_init 1 = .ok (.invokespecial 1, 3) := by decide +kernel
theorem dJ12_init_4 : decode cJ12_init 4 = .ok (.return_, 1) := by decide +kernel
abbrev cJ12_init_2 : ByteArray := prog_25_method_2_code
def yJ12_init_2 : MethodName := ⟨RJ12, "<init>", "(Ljava/lang/String;)V"⟩
def dkwJ12_init_2_0 : List UInt8 := [42, 43, 183, 0, 7, 177]
abbrev dktJ12_init_2_0 : List UInt8 := dkwJ12_init_2_0 ++ []
theorem dksJ12_init_2_0 : cJ12_init_2.data.toList.drop 0 = dktJ12_init_2_0 := by decide +kernel
theorem dJ12_init_2_0 : decode cJ12_init_2 0 = .ok (.aload_n 0, 1) := dk_42 (dk_at dksJ12_init_2_0 0 rfl rfl)
theorem dJ12_init_2_1 : decode cJ12_init_2 1 = .ok (.aload_n 1, 1) := dk_43 (dk_at dksJ12_init_2_0 1 rfl rfl)
theorem dJ12_init_2_2 : decode cJ12_init_2 2 = .ok (.invokespecial 7, 3) := dk_183 0 7 (dk_at dksJ12_init_2_0 2 rfl rfl)
theorem dJ12_init_2_5 : decode cJ12_init_2 5 = .ok (.return_, 1) := dk_177 (dk_at dksJ12_init_2_0 5 rfl rfl)
theorem q72 : (Jvm.Cond.initialized "java/lang/RuntimeException") ∈ lw_all := lw_g (lw_at lw_m1 17 rfl) rfl
theorem q244 : (Jvm.Cond.declares ({ cls := "java/lang/RuntimeException", name := "<init>", desc := "()V" } : Jvm.MethodName)) ∈ lw_tbl := lw_at lw_m1 189 rfl
theorem q245 : (Jvm.Cond.declares ({ cls := "java/lang/RuntimeException", name := "<init>", desc := "(Ljava/lang/String;)V" } : Jvm.MethodName)) ∈ lw_tbl := lw_at lw_m1 190 rfl
theorem q288 : (Jvm.Cond.instanceMethod ({ cls := "java/lang/RuntimeException", name := "<init>", desc := "()V" } : Jvm.MethodName)) ∈ lw_all := lw_g (lw_at lw_m1 233 rfl) rfl
theorem q289 : (Jvm.Cond.code ({ cls := "java/lang/RuntimeException", name := "<init>", desc := "()V" } : Jvm.MethodName) prog_25_method_1_code (1 : Nat) (Option.none : Option Jvm.ClassFile.FieldType)) ∈ lw_all := lw_g (lw_at lw_m1 234 rfl) rfl
theorem q290 : (Jvm.Cond.methodLink "java/lang/RuntimeException" (1 : Nat) ({ cls := "java/lang/Exception", name := "<init>", desc := "()V" } : Jvm.MethodName)) ∈ lw_all := lw_g (lw_at lw_m1 235 rfl) rfl
theorem q1016 : (Jvm.Cond.instanceMethod ({ cls := "java/lang/RuntimeException", name := "<init>", desc := "(Ljava/lang/String;)V" } : Jvm.MethodName)) ∈ lw_all := lw_g (lw_at lw_m5 1 rfl) rfl
theorem q1017 : (Jvm.Cond.code ({ cls := "java/lang/RuntimeException", name := "<init>", desc := "(Ljava/lang/String;)V" } : Jvm.MethodName) prog_25_method_2_code (2 : Nat) (Option.none : Option Jvm.ClassFile.FieldType)) ∈ lw_all := lw_g (lw_at lw_m5 2 rfl) rfl
theorem q1018 : (Jvm.Cond.methodLink "java/lang/RuntimeException" (7 : Nat) ({ cls := "java/lang/Exception", name := "<init>", desc := "(Ljava/lang/String;)V" } : Jvm.MethodName)) ∈ lw_all := lw_g (lw_at lw_m5 3 rfl) rfl

/-! java/lang/IllegalArgumentException -/
set_option maxRecDepth 100000
def RJ13 : String := "java/lang/IllegalArgumentException"
def TJ13 : u_T := fun k => match k with
  | 0 => ("java/lang/Throwable", "cause", "Ljava/lang/Throwable;", false)
  | 1 => ("java/lang/Throwable", "stackTrace", "[Ljava/lang/StackTraceElement;", false)
  | 2 => ("java/lang/Throwable", "suppressedExceptions", "Ljava/util/List;", false)
  | 3 => ("java/lang/Throwable", "detailMessage", "Ljava/lang/String;", false)
  | 4 => ("java/lang/Throwable", "backtrace", "Ljava/lang/Object;", false)
  | _ => ("java/lang/Throwable", "depth", "I", false)
def tyJ13 : Nat → FieldType := fun k => match k with
  | 0 => .object "java/lang/Throwable"
  | 1 => .array (.object "java/lang/StackTraceElement")
  | 2 => .object "java/util/List"
  | 3 => .object "java/lang/String"
  | 4 => .object "java/lang/Object"
  | _ => .int
abbrev wsJ130 : List Cond := u_ws RJ13 TJ13 6
theorem nmJ13 : ∀ a, a < 6 → ∀ b, b < 6 → a ≠ b → (TJ13 a).2.1 ≠ (TJ13 b).2.1 := by decide +kernel
theorem tyJ13_ok : ∀ k, k < 6 → parseFieldDescriptor (TJ13 k).2.2.1 = some (tyJ13 k) := by decide +kernel
abbrev cJ13_init : ByteArray := prog_16_method_1_code
def yJ13_init : MethodName := ⟨RJ13, "<init>", "()V"⟩
theorem dJ13_init_0 : decode cJ13_init 0 = .ok (.aload_n 0, 1) := by decide +kernel
theorem dJ13_init_1 : decode cJ13_init 1 = .ok (.invokespecial 1, 3) := by decide +kernel
theorem dJ13_init_4 : decode cJ13_init 4 = .ok (.return_, 1) := by decide +kernel
abbrev cJ13_init_2 : ByteArray := prog_16_method_2_code
def yJ13_init_2 : MethodName := ⟨RJ13, "<init>", "(Ljava/lang/String;)V"⟩
def dkwJ13_init_2_0 : List UInt8 := [42, 43, 183, 0, 7, 177]
abbrev dktJ13_init_2_0 : List UInt8 := dkwJ13_init_2_0 ++ []
theorem dksJ13_init_2_0 : cJ13_init_2.data.toList.drop 0 = dktJ13_init_2_0 := by decide +kernel
theorem dJ13_init_2_0 : decode cJ13_init_2 0 = .ok (.aload_n 0, 1) := dk_42 (dk_at dksJ13_init_2_0 0 rfl rfl)
theorem dJ13_init_2_1 : decode cJ13_init_2 1 = .ok (.aload_n 1, 1) := dk_43 (dk_at dksJ13_init_2_0 1 rfl rfl)
theorem dJ13_init_2_2 : decode cJ13_init_2 2 = .ok (.invokespecial 7, 3) := dk_183 0 7 (dk_at dksJ13_init_2_0 2 rfl rfl)
theorem dJ13_init_2_5 : decode cJ13_init_2 5 = .ok (.return_, 1) := dk_177 (dk_at dksJ13_init_2_0 5 rfl rfl)
theorem q73 : (Jvm.Cond.initialized "java/lang/IllegalArgumentException") ∈ lw_all := lw_g (lw_at lw_m1 18 rfl) rfl
theorem q192 : (Jvm.Cond.selects "java/lang/IllegalArgumentException" ({ cls := "java/lang/Object", name := "getClass", desc := "()Ljava/lang/Class;" } : Jvm.MethodName) ({ cls := "java/lang/Object", name := "getClass", desc := "()Ljava/lang/Class;" } : Jvm.MethodName)) ∈ lw_all := lw_g (lw_at lw_m1 137 rfl) rfl
theorem q242 : (Jvm.Cond.instantiable "java/lang/IllegalArgumentException" (6 : Nat)) ∈ lw_all := lw_g (lw_at lw_m1 187 rfl) rfl
theorem q243 : (Jvm.Cond.castable "java/lang/IllegalArgumentException" "java/lang/IllegalArgumentException") ∈ lw_tbl := lw_at lw_m1 188 rfl
theorem q250 : (Jvm.Cond.selects "java/lang/IllegalArgumentException" ({ cls := "java/lang/Throwable", name := "fillInStackTrace", desc := "(I)Ljava/lang/Throwable;" } : Jvm.MethodName) ({ cls := "java/lang/Throwable", name := "fillInStackTrace", desc := "(I)Ljava/lang/Throwable;" } : Jvm.MethodName)) ∈ lw_all := lw_g (lw_at lw_m1 195 rfl) rfl
theorem q251 : (Jvm.Cond.selects "java/lang/IllegalArgumentException" ({ cls := "java/lang/Throwable", name := "fillInStackTrace", desc := "()Ljava/lang/Throwable;" } : Jvm.MethodName) ({ cls := "java/lang/Throwable", name := "fillInStackTrace", desc := "()Ljava/lang/Throwable;" } : Jvm.MethodName)) ∈ lw_all := lw_g (lw_at lw_m1 196 rfl) rfl
theorem q252 : (Jvm.Cond.lays "java/lang/IllegalArgumentException" "java/lang/Throwable" "cause" "Ljava/lang/Throwable;") ∈ lw_all := lw_g (lw_at lw_m1 197 rfl) rfl
theorem q254 : (Jvm.Cond.lays "java/lang/IllegalArgumentException" "java/lang/Throwable" "stackTrace" "[Ljava/lang/StackTraceElement;") ∈ lw_all := lw_g (lw_at lw_m1 199 rfl) rfl
theorem q256 : (Jvm.Cond.lays "java/lang/IllegalArgumentException" "java/lang/Throwable" "suppressedExceptions" "Ljava/util/List;") ∈ lw_all := lw_g (lw_at lw_m1 201 rfl) rfl
theorem q258 : (Jvm.Cond.lays "java/lang/IllegalArgumentException" "java/lang/Throwable" "detailMessage" "Ljava/lang/String;") ∈ lw_all := lw_g (lw_at lw_m1 203 rfl) rfl
theorem q260 : (Jvm.Cond.lays "java/lang/IllegalArgumentException" "java/lang/Throwable" "backtrace" "Ljava/lang/Object;") ∈ lw_all := lw_g (lw_at lw_m1 205 rfl) rfl
theorem q285 : (Jvm.Cond.instanceMethod ({ cls := "java/lang/IllegalArgumentException", name := "<init>", desc := "()V" } : Jvm.MethodName)) ∈ lw_all := lw_g (lw_at lw_m1 230 rfl) rfl
theorem q286 : (Jvm.Cond.code ({ cls := "java/lang/IllegalArgumentException", name := "<init>", desc := "()V" } : Jvm.MethodName) prog_16_method_1_code (1 : Nat) (Option.none : Option Jvm.ClassFile.FieldType)) ∈ lw_all := lw_g (lw_at lw_m1 231 rfl) rfl
theorem q287 : (Jvm.Cond.methodLink "java/lang/IllegalArgumentException" (1 : Nat) ({ cls := "java/lang/RuntimeException", name := "<init>", desc := "()V" } : Jvm.MethodName)) ∈ lw_all := lw_g (lw_at lw_m1 232 rfl) rfl
theorem q303 : (Jvm.Cond.lays "java/lang/IllegalArgumentException" "java/lang/Throwable" "depth" "I") ∈ lw_all := lw_g (lw_at lw_m2 8 rfl) rfl
theorem q306 : (Jvm.Cond.superclass "java/lang/IllegalArgumentException" "java/lang/RuntimeException") ∈ lw_all := lw_g (lw_at lw_m2 11 rfl) rfl
theorem q1338 : (Jvm.Cond.instanceMethod ({ cls := "java/lang/IllegalArgumentException", name := "<init>", desc := "(Ljava/lang/String;)V" } : Jvm.MethodName)) ∈ lw_all := lw_g (lw_at lw_m6 83 rfl) rfl
theorem q1339 : (Jvm.Cond.code ({ cls := "java/lang/IllegalArgumentException", name := "<init>", desc := "(Ljava/lang/String;)V" } : Jvm.MethodName) prog_16_method_2_code (2 : Nat) (Option.none : Option Jvm.ClassFile.FieldType)) ∈ lw_all := lw_g (lw_at lw_m6 84 rfl) rfl
theorem q1340 : (Jvm.Cond.methodLink "java/lang/IllegalArgumentException" (7 : Nat) ({ cls := "java/lang/RuntimeException", name := "<init>", desc := "(Ljava/lang/String;)V" } : Jvm.MethodName)) ∈ lw_all := lw_g (lw_at lw_m6 85 rfl) rfl
theorem q1888 : (Jvm.Cond.castable "java/lang/IllegalArgumentException" "java/lang/Object") ∈ lw_tbl := lw_at lw_m8 153 rfl
theorem in_J13 : ∀ w ∈ wsJ130, w ∈ lw_all := lw_in wsJ130 [252, 254, 256, 258, 260, 303] (by decide +kernel) (by decide +kernel)

/-! java/lang/IndexOutOfBoundsException -/
set_option maxRecDepth 100000
def RJ14 : String := "java/lang/IndexOutOfBoundsException"
def TJ14 : u_T := fun k => match k with
  | 0 => ("java/lang/Throwable", "cause", "Ljava/lang/Throwable;", false)
  | 1 => ("java/lang/Throwable", "stackTrace", "[Ljava/lang/StackTraceElement;", false)
  | 2 => ("java/lang/Throwable", "suppressedExceptions", "Ljava/util/List;", false)
  | 3 => ("java/lang/Throwable", "detailMessage", "Ljava/lang/String;", false)
  | 4 => ("java/lang/Throwable", "backtrace", "Ljava/lang/Object;", false)
  | _ => ("java/lang/Throwable", "depth", "I", false)
def tyJ14 : Nat → FieldType := fun k => match k with
  | 0 => .object "java/lang/Throwable"
  | 1 => .array (.object "java/lang/StackTraceElement")
  | 2 => .object "java/util/List"
  | 3 => .object "java/lang/String"
  | 4 => .object "java/lang/Object"
  | _ => .int
abbrev wsJ140 : List Cond := u_ws RJ14 TJ14 6
theorem nmJ14 : ∀ a, a < 6 → ∀ b, b < 6 → a ≠ b → (TJ14 a).2.1 ≠ (TJ14 b).2.1 := by decide +kernel
theorem tyJ14_ok : ∀ k, k < 6 → parseFieldDescriptor (TJ14 k).2.2.1 = some (tyJ14 k) := by decide +kernel
abbrev cJ14_init : ByteArray := prog_18_method_1_code
def yJ14_init : MethodName := ⟨RJ14, "<init>", "()V"⟩
theorem dJ14_init_0 : decode cJ14_init 0 = .ok (.aload_n 0, 1) := by decide +kernel
theorem dJ14_init_1 : decode cJ14_init 1 = .ok (.invokespecial 1, 3) := by decide +kernel
theorem dJ14_init_4 : decode cJ14_init 4 = .ok (.return_, 1) := by decide +kernel
abbrev cJ14_init_2 : ByteArray := prog_18_method_2_code
def yJ14_init_2 : MethodName := ⟨RJ14, "<init>", "(Ljava/lang/String;)V"⟩
def dkwJ14_init_2_0 : List UInt8 := [42, 43, 183, 0, 7, 177]
abbrev dktJ14_init_2_0 : List UInt8 := dkwJ14_init_2_0 ++ []
theorem dksJ14_init_2_0 : cJ14_init_2.data.toList.drop 0 = dktJ14_init_2_0 := by decide +kernel
theorem dJ14_init_2_0 : decode cJ14_init_2 0 = .ok (.aload_n 0, 1) := dk_42 (dk_at dksJ14_init_2_0 0 rfl rfl)
theorem dJ14_init_2_1 : decode cJ14_init_2 1 = .ok (.aload_n 1, 1) := dk_43 (dk_at dksJ14_init_2_0 1 rfl rfl)
theorem dJ14_init_2_2 : decode cJ14_init_2 2 = .ok (.invokespecial 7, 3) := dk_183 0 7 (dk_at dksJ14_init_2_0 2 rfl rfl)
theorem dJ14_init_2_5 : decode cJ14_init_2 5 = .ok (.return_, 1) := dk_177 (dk_at dksJ14_init_2_0 5 rfl rfl)
theorem q76 : (Jvm.Cond.initialized "java/lang/IndexOutOfBoundsException") ∈ lw_all := lw_g (lw_at lw_m1 21 rfl) rfl
theorem q194 : (Jvm.Cond.selects "java/lang/IndexOutOfBoundsException" ({ cls := "java/lang/Object", name := "getClass", desc := "()Ljava/lang/Class;" } : Jvm.MethodName) ({ cls := "java/lang/Object", name := "getClass", desc := "()Ljava/lang/Class;" } : Jvm.MethodName)) ∈ lw_all := lw_g (lw_at lw_m1 139 rfl) rfl
theorem q276 : (Jvm.Cond.selects "java/lang/IndexOutOfBoundsException" ({ cls := "java/lang/Throwable", name := "fillInStackTrace", desc := "()Ljava/lang/Throwable;" } : Jvm.MethodName) ({ cls := "java/lang/Throwable", name := "fillInStackTrace", desc := "()Ljava/lang/Throwable;" } : Jvm.MethodName)) ∈ lw_all := lw_g (lw_at lw_m1 221 rfl) rfl
theorem q932 : (Jvm.Cond.instantiable "java/lang/IndexOutOfBoundsException" (6 : Nat)) ∈ lw_all := lw_g (lw_at lw_m4 157 rfl) rfl
theorem q933 : (Jvm.Cond.castable "java/lang/IndexOutOfBoundsException" "java/lang/IndexOutOfBoundsException") ∈ lw_tbl := lw_at lw_m4 158 rfl
theorem q934 : (Jvm.Cond.selects "java/lang/IndexOutOfBoundsException" ({ cls := "java/lang/Throwable", name := "fillInStackTrace", desc := "(I)Ljava/lang/Throwable;" } : Jvm.MethodName) ({ cls := "java/lang/Throwable", name := "fillInStackTrace", desc := "(I)Ljava/lang/Throwable;" } : Jvm.MethodName)) ∈ lw_all := lw_g (lw_at lw_m4 159 rfl) rfl
theorem q935 : (Jvm.Cond.lays "java/lang/IndexOutOfBoundsException" "java/lang/Throwable" "cause" "Ljava/lang/Throwable;") ∈ lw_all := lw_g (lw_at lw_m4 160 rfl) rfl
theorem q936 : (Jvm.Cond.lays "java/lang/IndexOutOfBoundsException" "java/lang/Throwable" "stackTrace" "[Ljava/lang/StackTraceElement;") ∈ lw_all := lw_g (lw_at lw_m4 161 rfl) rfl
theorem q937 : (Jvm.Cond.lays "java/lang/IndexOutOfBoundsException" "java/lang/Throwable" "suppressedExceptions" "Ljava/util/List;") ∈ lw_all := lw_g (lw_at lw_m4 162 rfl) rfl
theorem q938 : (Jvm.Cond.lays "java/lang/IndexOutOfBoundsException" "java/lang/Throwable" "detailMessage" "Ljava/lang/String;") ∈ lw_all := lw_g (lw_at lw_m4 163 rfl) rfl
theorem q939 : (Jvm.Cond.lays "java/lang/IndexOutOfBoundsException" "java/lang/Throwable" "backtrace" "Ljava/lang/Object;") ∈ lw_all := lw_g (lw_at lw_m4 164 rfl) rfl
theorem q941 : (Jvm.Cond.instanceMethod ({ cls := "java/lang/IndexOutOfBoundsException", name := "<init>", desc := "()V" } : Jvm.MethodName)) ∈ lw_all := lw_g (lw_at lw_m4 166 rfl) rfl
theorem q942 : (Jvm.Cond.code ({ cls := "java/lang/IndexOutOfBoundsException", name := "<init>", desc := "()V" } : Jvm.MethodName) prog_18_method_1_code (1 : Nat) (Option.none : Option Jvm.ClassFile.FieldType)) ∈ lw_all := lw_g (lw_at lw_m4 167 rfl) rfl
theorem q943 : (Jvm.Cond.methodLink "java/lang/IndexOutOfBoundsException" (1 : Nat) ({ cls := "java/lang/RuntimeException", name := "<init>", desc := "()V" } : Jvm.MethodName)) ∈ lw_all := lw_g (lw_at lw_m4 168 rfl) rfl
theorem q944 : (Jvm.Cond.lays "java/lang/IndexOutOfBoundsException" "java/lang/Throwable" "depth" "I") ∈ lw_all := lw_g (lw_at lw_m4 169 rfl) rfl
theorem q945 : (Jvm.Cond.superclass "java/lang/IndexOutOfBoundsException" "java/lang/RuntimeException") ∈ lw_all := lw_g (lw_at lw_m4 170 rfl) rfl
theorem q1013 : (Jvm.Cond.instanceMethod ({ cls := "java/lang/IndexOutOfBoundsException", name := "<init>", desc := "(Ljava/lang/String;)V" } : Jvm.MethodName)) ∈ lw_all := lw_g (lw_at lw_m4 238 rfl) rfl
theorem q1014 : (Jvm.Cond.code ({ cls := "java/lang/IndexOutOfBoundsException", name := "<init>", desc := "(Ljava/lang/String;)V" } : Jvm.MethodName) prog_18_method_2_code (2 : Nat) (Option.none : Option Jvm.ClassFile.FieldType)) ∈ lw_all := lw_g (lw_at lw_m4 239 rfl) rfl
theorem q1015 : (Jvm.Cond.methodLink "java/lang/IndexOutOfBoundsException" (7 : Nat) ({ cls := "java/lang/RuntimeException", name := "<init>", desc := "(Ljava/lang/String;)V" } : Jvm.MethodName)) ∈ lw_all := lw_g (lw_at lw_m5 0 rfl) rfl
theorem q1032 : (Jvm.Cond.declares ({ cls := "java/lang/IndexOutOfBoundsException", name := "<init>", desc := "()V" } : Jvm.MethodName)) ∈ lw_tbl := lw_at lw_m5 17 rfl
theorem q1033 : (Jvm.Cond.declares ({ cls := "java/lang/IndexOutOfBoundsException", name := "<init>", desc := "(Ljava/lang/String;)V" } : Jvm.MethodName)) ∈ lw_tbl := lw_at lw_m5 18 rfl
theorem q1892 : (Jvm.Cond.castable "java/lang/IndexOutOfBoundsException" "java/lang/Object") ∈ lw_tbl := lw_at lw_m8 157 rfl
theorem in_J14 : ∀ w ∈ wsJ140, w ∈ lw_all := lw_in wsJ140 [935, 936, 937, 938, 939, 944] (by decide +kernel) (by decide +kernel)

/-! java/util/Objects -/
set_option maxRecDepth 100000
def RJ17 : String := "java/util/Objects"
abbrev cJ17_checkIndex : ByteArray := prog_45_method_17_code
def yJ17_checkIndex : MethodName := ⟨RJ17, "checkIndex", "(II)I"⟩
def dkwJ17_checkIndex_0 : List UInt8 := [26, 27, 1, 184, 0, 105, 172]
abbrev dktJ17_checkIndex_0 : List UInt8 := dkwJ17_checkIndex_0 ++ []
theorem dksJ17_checkIndex_0 : cJ17_checkIndex.data.toList.drop 0 = dktJ17_checkIndex_0 := by decide +kernel
theorem dJ17_checkIndex_0 : decode cJ17_checkIndex 0 = .ok (.iload_n 0, 1) := dk_26 (dk_at dksJ17_checkIndex_0 0 rfl rfl)
theorem dJ17_checkIndex_1 : decode cJ17_checkIndex 1 = .ok (.iload_n 1, 1) := dk_27 (dk_at dksJ17_checkIndex_0 1 rfl rfl)
theorem dJ17_checkIndex_2 : decode cJ17_checkIndex 2 = .ok (.aconst_null, 1) := dk_1 (dk_at dksJ17_checkIndex_0 2 rfl rfl)
theorem dJ17_checkIndex_3 : decode cJ17_checkIndex 3 = .ok (.invokestatic 105, 3) := dk_184 0 105 (dk_at dksJ17_checkIndex_0 3 rfl rfl)
theorem dJ17_checkIndex_6 : decode cJ17_checkIndex 6 = .ok (.ireturn, 1) := dk_172 (dk_at dksJ17_checkIndex_0 6 rfl rfl)
theorem q79 : (Jvm.Cond.initialized "java/util/Objects") ∈ lw_all := lw_g (lw_at lw_m1 24 rfl) rfl
theorem q489 : (Jvm.Cond.static ({ cls := "java/util/Objects", name := "checkIndex", desc := "(II)I" } : Jvm.MethodName)) ∈ lw_all := lw_g (lw_at lw_m2 194 rfl) rfl
theorem q490 : (Jvm.Cond.code ({ cls := "java/util/Objects", name := "checkIndex", desc := "(II)I" } : Jvm.MethodName) prog_45_method_17_code (2 : Nat) (Option.some Jvm.ClassFile.FieldType.int)) ∈ lw_all := lw_g (lw_at lw_m2 195 rfl) rfl
theorem q491 : (Jvm.Cond.methodLink "java/util/Objects" (105 : Nat) ({ cls := "jdk/internal/util/Preconditions", name := "checkIndex", desc := "(IILjava/util/function/BiFunction;)I" } : Jvm.MethodName)) ∈ lw_all := lw_g (lw_at lw_m2 196 rfl) rfl

/-! jdk/internal/util/Preconditions -/
set_option maxRecDepth 100000
def RJ18 : String := "jdk/internal/util/Preconditions"
abbrev cJ18_checkIndex : ByteArray := prog_53_method_11_code
def yJ18_checkIndex : MethodName := ⟨RJ18, "checkIndex", "(IILjava/util/function/BiFunction;)I"⟩
def dkwJ18_checkIndex_0 : List UInt8 := [26, 155, 0, 8, 26, 27, 161, 0, 10, 44, 26, 27, 184, 0, 95, 191, 26, 172]
abbrev dktJ18_checkIndex_0 : List UInt8 := dkwJ18_checkIndex_0 ++ []
theorem dksJ18_checkIndex_0 : cJ18_checkIndex.data.toList.drop 0 = dktJ18_checkIndex_0 := by decide +kernel
theorem dJ18_checkIndex_0 : decode cJ18_checkIndex 0 = .ok (.iload_n 0, 1) := dk_26 (dk_at dksJ18_checkIndex_0 0 rfl rfl)
theorem dJ18_checkIndex_1 : decode cJ18_checkIndex 1 = .ok (.ifCond .lt 8, 3) := dk_155 0 8 (dk_at dksJ18_checkIndex_0 1 rfl rfl)
theorem dJ18_checkIndex_4 : decode cJ18_checkIndex 4 = .ok (.iload_n 0, 1) := dk_26 (dk_at dksJ18_checkIndex_0 4 rfl rfl)
theorem dJ18_checkIndex_5 : decode cJ18_checkIndex 5 = .ok (.iload_n 1, 1) := dk_27 (dk_at dksJ18_checkIndex_0 5 rfl rfl)
theorem dJ18_checkIndex_6 : decode cJ18_checkIndex 6 = .ok (.if_icmp .lt 10, 3) := dk_161 0 10 (dk_at dksJ18_checkIndex_0 6 rfl rfl)
theorem dJ18_checkIndex_9 : decode cJ18_checkIndex 9 = .ok (.aload_n 2, 1) := dk_44 (dk_at dksJ18_checkIndex_0 9 rfl rfl)
theorem dJ18_checkIndex_10 : decode cJ18_checkIndex 10 = .ok (.iload_n 0, 1) := dk_26 (dk_at dksJ18_checkIndex_0 10 rfl rfl)
theorem dJ18_checkIndex_11 : decode cJ18_checkIndex 11 = .ok (.iload_n 1, 1) := dk_27 (dk_at dksJ18_checkIndex_0 11 rfl rfl)
theorem dJ18_checkIndex_12 : decode cJ18_checkIndex 12 = .ok (.invokestatic 95, 3) := dk_184 0 95 (dk_at dksJ18_checkIndex_0 12 rfl rfl)
theorem dJ18_checkIndex_15 : decode cJ18_checkIndex 15 = .ok (.athrow, 1) := dk_191 (dk_at dksJ18_checkIndex_0 15 rfl rfl)
theorem dJ18_checkIndex_16 : decode cJ18_checkIndex 16 = .ok (.iload_n 0, 1) := dk_26 (dk_at dksJ18_checkIndex_0 16 rfl rfl)
theorem dJ18_checkIndex_17 : decode cJ18_checkIndex 17 = .ok (.ireturn, 1) := dk_172 (dk_at dksJ18_checkIndex_0 17 rfl rfl)
abbrev cJ18_checkFromToIndex : ByteArray := prog_53_method_12_code
def yJ18_checkFromToIndex : MethodName := ⟨RJ18, "checkFromToIndex", "(IIILjava/util/function/BiFunction;)I"⟩
def dkwJ18_checkFromToIndex_0 : List UInt8 := [26, 155, 0, 13, 26, 27, 163, 0, 8, 27, 28, 164, 0, 11, 45, 26, 27, 28, 184, 0, 99, 191, 26, 172]
abbrev dktJ18_checkFromToIndex_0 : List UInt8 := dkwJ18_checkFromToIndex_0 ++ []
theorem dksJ18_checkFromToIndex_0 : cJ18_checkFromToIndex.data.toList.drop 0 = dktJ18_checkFromToIndex_0 := by decide +kernel
theorem dJ18_checkFromToIndex_0 : decode cJ18_checkFromToIndex 0 = .ok (.iload_n 0, 1) := dk_26 (dk_at dksJ18_checkFromToIndex_0 0 rfl rfl)
theorem dJ18_checkFromToIndex_1 : decode cJ18_checkFromToIndex 1 = .ok (.ifCond .lt 13, 3) := dk_155 0 13 (dk_at dksJ18_checkFromToIndex_0 1 rfl rfl)
theorem dJ18_checkFromToIndex_4 : decode cJ18_checkFromToIndex 4 = .ok (.iload_n 0, 1) := dk_26 (dk_at dksJ18_checkFromToIndex_0 4 rfl rfl)
theorem dJ18_checkFromToIndex_5 : decode cJ18_checkFromToIndex 5 = .ok (.iload_n 1, 1) := dk_27 (dk_at dksJ18_checkFromToIndex_0 5 rfl rfl)
theorem dJ18_checkFromToIndex_6 : decode cJ18_checkFromToIndex 6 = .ok (.if_icmp .gt 8, 3) := dk_163 0 8 (dk_at dksJ18_checkFromToIndex_0 6 rfl rfl)
theorem dJ18_checkFromToIndex_9 : decode cJ18_checkFromToIndex 9 = .ok (.iload_n 1, 1) := dk_27 (dk_at dksJ18_checkFromToIndex_0 9 rfl rfl)
theorem dJ18_checkFromToIndex_10 : decode cJ18_checkFromToIndex 10 = .ok (.iload_n 2, 1) := dk_28 (dk_at dksJ18_checkFromToIndex_0 10 rfl rfl)
theorem dJ18_checkFromToIndex_11 : decode cJ18_checkFromToIndex 11 = .ok (.if_icmp .le 11, 3) := dk_164 0 11 (dk_at dksJ18_checkFromToIndex_0 11 rfl rfl)
theorem dJ18_checkFromToIndex_14 : decode cJ18_checkFromToIndex 14 = .ok (.aload_n 3, 1) := dk_45 (dk_at dksJ18_checkFromToIndex_0 14 rfl rfl)
theorem dJ18_checkFromToIndex_15 : decode cJ18_checkFromToIndex 15 = .ok (.iload_n 0, 1) := dk_26 (dk_at dksJ18_checkFromToIndex_0 15 rfl rfl)
theorem dJ18_checkFromToIndex_16 : decode cJ18_checkFromToIndex 16 = .ok (.iload_n 1, 1) := dk_27 (dk_at dksJ18_checkFromToIndex_0 16 rfl rfl)
theorem dJ18_checkFromToIndex_17 : decode cJ18_checkFromToIndex 17 = .ok (.iload_n 2, 1) := dk_28 (dk_at dksJ18_checkFromToIndex_0 17 rfl rfl)
theorem dJ18_checkFromToIndex_18 : decode cJ18_checkFromToIndex 18 = .ok (.invokestatic 99, 3) := dk_184 0 99 (dk_at dksJ18_checkFromToIndex_0 18 rfl rfl)
theorem dJ18_checkFromToIndex_21 : decode cJ18_checkFromToIndex 21 = .ok (.athrow, 1) := dk_191 (dk_at dksJ18_checkFromToIndex_0 21 rfl rfl)
theorem dJ18_checkFromToIndex_22 : decode cJ18_checkFromToIndex 22 = .ok (.iload_n 0, 1) := dk_26 (dk_at dksJ18_checkFromToIndex_0 22 rfl rfl)
theorem dJ18_checkFromToIndex_23 : decode cJ18_checkFromToIndex 23 = .ok (.ireturn, 1) := dk_172 (dk_at dksJ18_checkFromToIndex_0 23 rfl rfl)
abbrev cJ18_checkFromIndexSize : ByteArray := prog_53_method_13_code
def yJ18_checkFromIndexSize : MethodName := ⟨RJ18, "checkFromIndexSize", "(IIILjava/util/function/BiFunction;)I"⟩
def dkwJ18_checkFromIndexSize_1 : List UInt8 := [172]
abbrev dktJ18_checkFromIndexSize_1 : List UInt8 := dkwJ18_checkFromIndexSize_1 ++ []
def dkwJ18_checkFromIndexSize_0 : List UInt8 := [28, 26, 128, 27, 128, 155, 0, 10, 27, 28, 26, 100, 164, 0, 11, 45, 26, 27, 28, 184, 0, 103, 191, 26]
abbrev dktJ18_checkFromIndexSize_0 : List UInt8 := dkwJ18_checkFromIndexSize_0 ++ dktJ18_checkFromIndexSize_1
theorem dksJ18_checkFromIndexSize_0 : cJ18_checkFromIndexSize.data.toList.drop 0 = dktJ18_checkFromIndexSize_0 := by decide +kernel
theorem dksJ18_checkFromIndexSize_1 : cJ18_checkFromIndexSize.data.toList.drop 24 = dktJ18_checkFromIndexSize_1 := dk_seg dksJ18_checkFromIndexSize_0 24 rfl rfl
theorem dJ18_checkFromIndexSize_0 : decode cJ18_checkFromIndexSize 0 = .ok (.iload_n 2, 1) := dk_28 (dk_at dksJ18_checkFromIndexSize_0 0 rfl rfl)
theorem dJ18_checkFromIndexSize_1 : decode cJ18_checkFromIndexSize 1 = .ok (.iload_n 0, 1) := dk_26 (dk_at dksJ18_checkFromIndexSize_0 1 rfl rfl)
theorem dJ18_checkFromIndexSize_2 : decode cJ18_checkFromIndexSize 2 = .ok (.ior, 1) := dk_128 (dk_at dksJ18_checkFromIndexSize_0 2 rfl rfl)
theorem dJ18_checkFromIndexSize_3 : decode cJ18_checkFromIndexSize 3 = .ok (.iload_n 1, 1) := dk_27 (dk_at dksJ18_checkFromIndexSize_0 3 rfl rfl)
theorem dJ18_checkFromIndexSize_4 : decode cJ18_checkFromIndexSize 4 = .ok (.ior, 1) := dk_128 (dk_at dksJ18_checkFromIndexSize_0 4 rfl rfl)
theorem dJ18_checkFromIndexSize_5 : decode cJ18_checkFromIndexSize 5 = .ok (.ifCond .lt 10, 3) := dk_155 0 10 (dk_at dksJ18_checkFromIndexSize_0 5 rfl rfl)
theorem dJ18_checkFromIndexSize_8 : decode cJ18_checkFromIndexSize 8 = .ok (.iload_n 1, 1) := dk_27 (dk_at dksJ18_checkFromIndexSize_0 8 rfl rfl)
theorem dJ18_checkFromIndexSize_9 : decode cJ18_checkFromIndexSize 9 = .ok (.iload_n 2, 1) := dk_28 (dk_at dksJ18_checkFromIndexSize_0 9 rfl rfl)
theorem dJ18_checkFromIndexSize_10 : decode cJ18_checkFromIndexSize 10 = .ok (.iload_n 0, 1) := dk_26 (dk_at dksJ18_checkFromIndexSize_0 10 rfl rfl)
theorem dJ18_checkFromIndexSize_11 : decode cJ18_checkFromIndexSize 11 = .ok (.isub, 1) := dk_100 (dk_at dksJ18_checkFromIndexSize_0 11 rfl rfl)
theorem dJ18_checkFromIndexSize_12 : decode cJ18_checkFromIndexSize 12 = .ok (.if_icmp .le 11, 3) := dk_164 0 11 (dk_at dksJ18_checkFromIndexSize_0 12 rfl rfl)
theorem dJ18_checkFromIndexSize_15 : decode cJ18_checkFromIndexSize 15 = .ok (.aload_n 3, 1) := dk_45 (dk_at dksJ18_checkFromIndexSize_0 15 rfl rfl)
theorem dJ18_checkFromIndexSize_16 : decode cJ18_checkFromIndexSize 16 = .ok (.iload_n 0, 1) := dk_26 (dk_at dksJ18_checkFromIndexSize_0 16 rfl rfl)
theorem dJ18_checkFromIndexSize_17 : decode cJ18_checkFromIndexSize 17 = .ok (.iload_n 1, 1) := dk_27 (dk_at dksJ18_checkFromIndexSize_0 17 rfl rfl)
theorem dJ18_checkFromIndexSize_18 : decode cJ18_checkFromIndexSize 18 = .ok (.iload_n 2, 1) := dk_28 (dk_at dksJ18_checkFromIndexSize_0 18 rfl rfl)
theorem dJ18_checkFromIndexSize_19 : decode cJ18_checkFromIndexSize 19 = .ok (.invokestatic 103, 3) := dk_184 0 103 (dk_at dksJ18_checkFromIndexSize_0 19 rfl rfl)
theorem dJ18_checkFromIndexSize_22 : decode cJ18_checkFromIndexSize 22 = .ok (.athrow, 1) := dk_191 (dk_at dksJ18_checkFromIndexSize_0 22 rfl rfl)
theorem dJ18_checkFromIndexSize_23 : decode cJ18_checkFromIndexSize 23 = .ok (.iload_n 0, 1) := dk_26 (dk_at dksJ18_checkFromIndexSize_0 23 rfl rfl)
theorem dJ18_checkFromIndexSize_24 : decode cJ18_checkFromIndexSize 24 = .ok (.ireturn, 1) := dk_172 (dk_at dksJ18_checkFromIndexSize_1 0 rfl rfl)
theorem q80 : (Jvm.Cond.initialized "jdk/internal/util/Preconditions") ∈ lw_all := lw_g (lw_at lw_m1 25 rfl) rfl
theorem q492 : (Jvm.Cond.static ({ cls := "jdk/internal/util/Preconditions", name := "checkIndex", desc := "(IILjava/util/function/BiFunction;)I" } : Jvm.MethodName)) ∈ lw_all := lw_g (lw_at lw_m2 197 rfl) rfl
theorem q493 : (Jvm.Cond.code ({ cls := "jdk/internal/util/Preconditions", name := "checkIndex", desc := "(IILjava/util/function/BiFunction;)I" } : Jvm.MethodName) prog_53_method_11_code (3 : Nat) (Option.some Jvm.ClassFile.FieldType.int)) ∈ lw_all := lw_g (lw_at lw_m2 198 rfl) rfl
theorem q865 : (Jvm.Cond.laysStatic "jdk/internal/util/Preconditions" "SIOOBE_FORMATTER" "Ljava/util/function/BiFunction;") ∈ lw_tbl := lw_at lw_m4 90 rfl
theorem q867 : (Jvm.Cond.static ({ cls := "jdk/internal/util/Preconditions", name := "checkFromToIndex", desc := "(IIILjava/util/function/BiFunction;)I" } : Jvm.MethodName)) ∈ lw_all := lw_g (lw_at lw_m4 92 rfl) rfl
theorem q868 : (Jvm.Cond.code ({ cls := "jdk/internal/util/Preconditions", name := "checkFromToIndex", desc := "(IIILjava/util/function/BiFunction;)I" } : Jvm.MethodName) prog_53_method_12_code (4 : Nat) (Option.some Jvm.ClassFile.FieldType.int)) ∈ lw_all := lw_g (lw_at lw_m4 93 rfl) rfl
theorem q1261 : (Jvm.Cond.static ({ cls := "jdk/internal/util/Preconditions", name := "checkFromIndexSize", desc := "(IIILjava/util/function/BiFunction;)I" } : Jvm.MethodName)) ∈ lw_all := lw_g (lw_at lw_m6 6 rfl) rfl
theorem q1262 : (Jvm.Cond.code ({ cls := "jdk/internal/util/Preconditions", name := "checkFromIndexSize", desc := "(IIILjava/util/function/BiFunction;)I" } : Jvm.MethodName) prog_53_method_13_code (4 : Nat) (Option.some Jvm.ClassFile.FieldType.int)) ∈ lw_all := lw_g (lw_at lw_m6 7 rfl) rfl

/-! java/util/ArrayList$Itr -/
set_option maxRecDepth 100000
def RJ19 : String := "java/util/ArrayList$Itr"
def TJ19 : u_T := fun k => match k with
  | 0 => ("java/util/ArrayList$Itr", "cursor", "I", false)
  | 1 => ("java/util/ArrayList$Itr", "lastRet", "I", false)
  | 2 => ("java/util/ArrayList$Itr", "expectedModCount", "I", false)
  | _ => ("java/util/ArrayList$Itr", "this$0", "Ljava/util/ArrayList;", true)
def tyJ19 : Nat → FieldType := fun k => match k with
  | 0 => .int
  | 1 => .int
  | 2 => .int
  | _ => .object "java/util/ArrayList"
abbrev wsJ190 : List Cond := u_ws RJ19 TJ19 4
theorem nmJ19 : ∀ a, a < 4 → ∀ b, b < 4 → a ≠ b → (TJ19 a).2.1 ≠ (TJ19 b).2.1 := by decide +kernel
theorem tyJ19_ok : ∀ k, k < 4 → parseFieldDescriptor (TJ19 k).2.2.1 = some (tyJ19 k) := by decide +kernel
abbrev cJ19_init : ByteArray := prog_38_method_1_code
def yJ19_init : MethodName := ⟨RJ19, "<init>", "(Ljava/util/ArrayList;)V"⟩
def dkwJ19_init_1 : List UInt8 := [181, 0, 22, 177]
abbrev dktJ19_init_1 : List UInt8 := dkwJ19_init_1 ++ []
def dkwJ19_init_0 : List UInt8 := [42, 43, 181, 0, 1, 42, 183, 0, 7, 42, 2, 181, 0, 13, 42, 42, 180, 0, 1, 180, 0, 17]
abbrev dktJ19_init_0 : List UInt8 := dkwJ19_init_0 ++ dktJ19_init_1
theorem dksJ19_init_0 : cJ19_init.data.toList.drop 0 = dktJ19_init_0 := by decide +kernel
theorem dksJ19_init_1 : cJ19_init.data.toList.drop 22 = dktJ19_init_1 := dk_seg dksJ19_init_0 22 rfl rfl
theorem dJ19_init_0 : decode cJ19_init 0 = .ok (.aload_n 0, 1) := dk_42 (dk_at dksJ19_init_0 0 rfl rfl)
theorem dJ19_init_1 : decode cJ19_init 1 = .ok (.aload_n 1, 1) := dk_43 (dk_at dksJ19_init_0 1 rfl rfl)
theorem dJ19_init_2 : decode cJ19_init 2 = .ok (.putfield 1, 3) := dk_181 0 1 (dk_at dksJ19_init_0 2 rfl rfl)
theorem dJ19_init_5 : decode cJ19_init 5 = .ok (.aload_n 0, 1) := dk_42 (dk_at dksJ19_init_0 5 rfl rfl)
theorem dJ19_init_6 : decode cJ19_init 6 = .ok (.invokespecial 7, 3) := dk_183 0 7 (dk_at dksJ19_init_0 6 rfl rfl)
theorem dJ19_init_9 : decode cJ19_init 9 = .ok (.aload_n 0, 1) := dk_42 (dk_at dksJ19_init_0 9 rfl rfl)
theorem dJ19_init_10 : decode cJ19_init 10 = .ok (.iconst (-1), 1) := dk_2 (dk_at dksJ19_init_0 10 rfl rfl)
theorem dJ19_init_11 : decode cJ19_init 11 = .ok (.putfield 13, 3) := dk_181 0 13 (dk_at dksJ19_init_0 11 rfl rfl)
theorem dJ19_init_14 : decode cJ19_init 14 = .ok (.aload_n 0, 1) := dk_42 (dk_at dksJ19_init_0 14 rfl rfl)
theorem dJ19_init_15 : decode cJ19_init 15 = .ok (.aload_n 0, 1) := dk_42 (dk_at dksJ19_init_0 15 rfl rfl)
theorem dJ19_init_16 : decode cJ19_init 16 = .ok (.getfield 1, 3) := dk_180 0 1 (dk_at dksJ19_init_0 16 rfl rfl)
theorem dJ19_init_19 : decode cJ19_init 19 = .ok (.getfield 17, 3) := dk_180 0 17 (dk_at dksJ19_init_0 19 rfl rfl)
theorem dJ19_init_22 : decode cJ19_init 22 = .ok (.putfield 22, 3) := dk_181 0 22 (dk_at dksJ19_init_1 0 rfl rfl)
theorem dJ19_init_25 : decode cJ19_init 25 = .ok (.return_, 1) := dk_177 (dk_at dksJ19_init_1 3 rfl rfl)
abbrev cJ19_hasNext : ByteArray := prog_38_method_2_code
def yJ19_hasNext : MethodName := ⟨RJ19, "hasNext", "()Z"⟩
def dkwJ19_hasNext_0 : List UInt8 := [42, 180, 0, 25, 42, 180, 0, 1, 180, 0, 28, 159, 0, 7, 4, 167, 0, 4, 3, 172]
abbrev dktJ19_hasNext_0 : List UInt8 := dkwJ19_hasNext_0 ++ []
theorem dksJ19_hasNext_0 : cJ19_hasNext.data.toList.drop 0 = dktJ19_hasNext_0 := by decide +kernel
theorem dJ19_hasNext_0 : decode cJ19_hasNext 0 = .ok (.aload_n 0, 1) := dk_42 (dk_at dksJ19_hasNext_0 0 rfl rfl)
theorem dJ19_hasNext_1 : decode cJ19_hasNext 1 = .ok (.getfield 25, 3) := dk_180 0 25 (dk_at dksJ19_hasNext_0 1 rfl rfl)
theorem dJ19_hasNext_4 : decode cJ19_hasNext 4 = .ok (.aload_n 0, 1) := dk_42 (dk_at dksJ19_hasNext_0 4 rfl rfl)
theorem dJ19_hasNext_5 : decode cJ19_hasNext 5 = .ok (.getfield 1, 3) := dk_180 0 1 (dk_at dksJ19_hasNext_0 5 rfl rfl)
theorem dJ19_hasNext_8 : decode cJ19_hasNext 8 = .ok (.getfield 28, 3) := dk_180 0 28 (dk_at dksJ19_hasNext_0 8 rfl rfl)
theorem dJ19_hasNext_11 : decode cJ19_hasNext 11 = .ok (.if_icmp .eq 7, 3) := dk_159 0 7 (dk_at dksJ19_hasNext_0 11 rfl rfl)
theorem dJ19_hasNext_14 : decode cJ19_hasNext 14 = .ok (.iconst 1, 1) := dk_4 (dk_at dksJ19_hasNext_0 14 rfl rfl)
theorem dJ19_hasNext_15 : decode cJ19_hasNext 15 = .ok (.goto 4, 3) := dk_167 0 4 (dk_at dksJ19_hasNext_0 15 rfl rfl)
theorem dJ19_hasNext_18 : decode cJ19_hasNext 18 = .ok (.iconst 0, 1) := dk_3 (dk_at dksJ19_hasNext_0 18 rfl rfl)
theorem dJ19_hasNext_19 : decode cJ19_hasNext 19 = .ok (.ireturn, 1) := dk_172 (dk_at dksJ19_hasNext_0 19 rfl rfl)
abbrev cJ19_next : ByteArray := prog_38_method_3_code
def yJ19_next : MethodName := ⟨RJ19, "next", "()Ljava/lang/Object;"⟩
def dkwJ19_next_2 : List UInt8 := [183, 0, 43, 191, 42, 27, 4, 96, 181, 0, 25, 44, 42, 27, 90, 181, 0, 13, 50, 176]
abbrev dktJ19_next_2 : List UInt8 := dkwJ19_next_2 ++ []
def dkwJ19_next_1 : List UInt8 := [183, 0, 36, 191, 42, 180, 0, 1, 180, 0, 37, 77, 27, 44, 190, 161, 0, 11, 187, 0, 41, 89]
abbrev dktJ19_next_1 : List UInt8 := dkwJ19_next_1 ++ dktJ19_next_2
def dkwJ19_next_0 : List UInt8 := [42, 182, 0, 31, 42, 180, 0, 25, 60, 27, 42, 180, 0, 1, 180, 0, 28, 161, 0, 11, 187, 0, 34, 89]
abbrev dktJ19_next_0 : List UInt8 := dkwJ19_next_0 ++ dktJ19_next_1
theorem dksJ19_next_0 : cJ19_next.data.toList.drop 0 = dktJ19_next_0 := by decide +kernel
theorem dksJ19_next_1 : cJ19_next.data.toList.drop 24 = dktJ19_next_1 := dk_seg dksJ19_next_0 24 rfl rfl
theorem dksJ19_next_2 : cJ19_next.data.toList.drop 46 = dktJ19_next_2 := dk_seg dksJ19_next_1 22 rfl rfl
theorem dJ19_next_0 : decode cJ19_next 0 = .ok (.aload_n 0, 1) := dk_42 (dk_at dksJ19_next_0 0 rfl rfl)
theorem dJ19_next_1 : decode cJ19_next 1 = .ok (.invokevirtual 31, 3) := dk_182 0 31 (dk_at dksJ19_next_0 1 rfl rfl)
theorem dJ19_next_4 : decode cJ19_next 4 = .ok (.aload_n 0, 1) := dk_42 (dk_at dksJ19_next_0 4 rfl rfl)
theorem dJ19_next_5 : decode cJ19_next 5 = .ok (.getfield 25, 3) := dk_180 0 25 (dk_at dksJ19_next_0 5 rfl rfl)
theorem dJ19_next_8 : decode cJ19_next 8 = .ok (.istore_n 1, 1) := dk_60 (dk_at dksJ19_next_0 8 rfl rfl)
theorem dJ19_next_9 : decode cJ19_next 9 = .ok (.iload_n 1, 1) := dk_27 (dk_at dksJ19_next_0 9 rfl rfl)
theorem dJ19_next_10 : decode cJ19_next 10 = .ok (.aload_n 0, 1) := dk_42 (dk_at dksJ19_next_0 10 rfl rfl)
theorem dJ19_next_11 : decode cJ19_next 11 = .ok (.getfield 1, 3) := dk_180 0 1 (dk_at dksJ19_next_0 11 rfl rfl)
theorem dJ19_next_14 : decode cJ19_next 14 = .ok (.getfield 28, 3) := dk_180 0 28 (dk_at dksJ19_next_0 14 rfl rfl)
theorem dJ19_next_17 : decode cJ19_next 17 = .ok (.if_icmp .lt 11, 3) := dk_161 0 11 (dk_at dksJ19_next_0 17 rfl rfl)
theorem dJ19_next_20 : decode cJ19_next 20 = .ok (.new 34, 3) := dk_187 0 34 (dk_at dksJ19_next_0 20 rfl rfl)
theorem dJ19_next_23 : decode cJ19_next 23 = .ok (.dup, 1) := dk_89 (dk_at dksJ19_next_0 23 rfl rfl)
theorem dJ19_next_24 : decode cJ19_next 24 = .ok (.invokespecial 36, 3) := dk_183 0 36 (dk_at dksJ19_next_1 0 rfl rfl)
theorem dJ19_next_27 : decode cJ19_next 27 = .ok (.athrow, 1) := dk_191 (dk_at dksJ19_next_1 3 rfl rfl)
theorem dJ19_next_28 : decode cJ19_next 28 = .ok (.aload_n 0, 1) := dk_42 (dk_at dksJ19_next_1 4 rfl rfl)
theorem dJ19_next_29 : decode cJ19_next 29 = .ok (.getfield 1, 3) := dk_180 0 1 (dk_at dksJ19_next_1 5 rfl rfl)
theorem dJ19_next_32 : decode cJ19_next 32 = .ok (.getfield 37, 3) := dk_180 0 37 (dk_at dksJ19_next_1 8 rfl rfl)
theorem dJ19_next_35 : decode cJ19_next 35 = .ok (.astore_n 2, 1) := dk_77 (dk_at dksJ19_next_1 11 rfl rfl)
theorem dJ19_next_36 : decode cJ19_next 36 = .ok (.iload_n 1, 1) := dk_27 (dk_at dksJ19_next_1 12 rfl rfl)
theorem dJ19_next_37 : decode cJ19_next 37 = .ok (.aload_n 2, 1) := dk_44 (dk_at dksJ19_next_1 13 rfl rfl)
theorem dJ19_next_38 : decode cJ19_next 38 = .ok (.arraylength, 1) := dk_190 (dk_at dksJ19_next_1 14 rfl rfl)
theorem dJ19_next_39 : decode cJ19_next 39 = .ok (.if_icmp .lt 11, 3) := dk_161 0 11 (dk_at dksJ19_next_1 15 rfl rfl)
theorem dJ19_next_42 : decode cJ19_next 42 = .ok (.new 41, 3) := dk_187 0 41 (dk_at dksJ19_next_1 18 rfl rfl)
theorem dJ19_next_45 : decode cJ19_next 45 = .ok (.dup, 1) := dk_89 (dk_at dksJ19_next_1 21 rfl rfl)
theorem dJ19_next_46 : decode cJ19_next 46 = .ok (.invokespecial 43, 3) := dk_183 0 43 (dk_at dksJ19_next_2 0 rfl rfl)
theorem dJ19_next_49 : decode cJ19_next 49 = .ok (.athrow, 1) := dk_191 (dk_at dksJ19_next_2 3 rfl rfl)
theorem dJ19_next_50 : decode cJ19_next 50 = .ok (.aload_n 0, 1) := dk_42 (dk_at dksJ19_next_2 4 rfl rfl)
theorem dJ19_next_51 : decode cJ19_next 51 = .ok (.iload_n 1, 1) := dk_27 (dk_at dksJ19_next_2 5 rfl rfl)
theorem dJ19_next_52 : decode cJ19_next 52 = .ok (.iconst 1, 1) := dk_4 (dk_at dksJ19_next_2 6 rfl rfl)
theorem dJ19_next_53 : decode cJ19_next 53 = .ok (.iadd, 1) := dk_96 (dk_at dksJ19_next_2 7 rfl rfl)
theorem dJ19_next_54 : decode cJ19_next 54 = .ok (.putfield 25, 3) := dk_181 0 25 (dk_at dksJ19_next_2 8 rfl rfl)
theorem dJ19_next_57 : decode cJ19_next 57 = .ok (.aload_n 2, 1) := dk_44 (dk_at dksJ19_next_2 11 rfl rfl)
theorem dJ19_next_58 : decode cJ19_next 58 = .ok (.aload_n 0, 1) := dk_42 (dk_at dksJ19_next_2 12 rfl rfl)
theorem dJ19_next_59 : decode cJ19_next 59 = .ok (.iload_n 1, 1) := dk_27 (dk_at dksJ19_next_2 13 rfl rfl)
theorem dJ19_next_60 : decode cJ19_next 60 = .ok (.dup_x1, 1) := dk_90 (dk_at dksJ19_next_2 14 rfl rfl)
theorem dJ19_next_61 : decode cJ19_next 61 = .ok (.putfield 13, 3) := dk_181 0 13 (dk_at dksJ19_next_2 15 rfl rfl)
theorem dJ19_next_64 : decode cJ19_next 64 = .ok (.aaload, 1) := dk_50 (dk_at dksJ19_next_2 18 rfl rfl)
theorem dJ19_next_65 : decode cJ19_next 65 = .ok (.areturn, 1) := dk_176 (dk_at dksJ19_next_2 19 rfl rfl)
abbrev cJ19_checkForComodification : ByteArray := prog_38_method_6_code
def yJ19_checkForComodification : MethodName := ⟨RJ19, "checkForComodification", "()V"⟩
def dkwJ19_checkForComodification_0 : List UInt8 := [42, 180, 0, 1, 180, 0, 17, 42, 180, 0, 22, 159, 0, 11, 187, 0, 41, 89, 183, 0, 43, 191, 177]
abbrev dktJ19_checkForComodification_0 : List UInt8 := dkwJ19_checkForComodification_0 ++ []
theorem dksJ19_checkForComodification_0 : cJ19_checkForComodification.data.toList.drop 0 = dktJ19_checkForComodification_0 := by decide +kernel
theorem dJ19_checkForComodification_0 : decode cJ19_checkForComodification 0 = .ok (.aload_n 0, 1) := dk_42 (dk_at dksJ19_checkForComodification_0 0 rfl rfl)
theorem dJ19_checkForComodification_1 : decode cJ19_checkForComodification 1 = .ok (.getfield 1, 3) := dk_180 0 1 (dk_at dksJ19_checkForComodification_0 1 rfl rfl)
theorem dJ19_checkForComodification_4 : decode cJ19_checkForComodification 4 = .ok (.getfield 17, 3) := dk_180 0 17 (dk_at dksJ19_checkForComodification_0 4 rfl rfl)
theorem dJ19_checkForComodification_7 : decode cJ19_checkForComodification 7 = .ok (.aload_n 0, 1) := dk_42 (dk_at dksJ19_checkForComodification_0 7 rfl rfl)
theorem dJ19_checkForComodification_8 : decode cJ19_checkForComodification 8 = .ok (.getfield 22, 3) := dk_180 0 22 (dk_at dksJ19_checkForComodification_0 8 rfl rfl)
theorem dJ19_checkForComodification_11 : decode cJ19_checkForComodification 11 = .ok (.if_icmp .eq 11, 3) := dk_159 0 11 (dk_at dksJ19_checkForComodification_0 11 rfl rfl)
theorem dJ19_checkForComodification_14 : decode cJ19_checkForComodification 14 = .ok (.new 41, 3) := dk_187 0 41 (dk_at dksJ19_checkForComodification_0 14 rfl rfl)
theorem dJ19_checkForComodification_17 : decode cJ19_checkForComodification 17 = .ok (.dup, 1) := dk_89 (dk_at dksJ19_checkForComodification_0 17 rfl rfl)
theorem dJ19_checkForComodification_18 : decode cJ19_checkForComodification 18 = .ok (.invokespecial 43, 3) := dk_183 0 43 (dk_at dksJ19_checkForComodification_0 18 rfl rfl)
theorem dJ19_checkForComodification_21 : decode cJ19_checkForComodification 21 = .ok (.athrow, 1) := dk_191 (dk_at dksJ19_checkForComodification_0 21 rfl rfl)
theorem dJ19_checkForComodification_22 : decode cJ19_checkForComodification 22 = .ok (.return_, 1) := dk_177 (dk_at dksJ19_checkForComodification_0 22 rfl rfl)
theorem q81 : (Jvm.Cond.initialized "java/util/ArrayList$Itr") ∈ lw_all := lw_g (lw_at lw_m1 26 rfl) rfl
theorem q119 : (Jvm.Cond.fieldLink "java/util/ArrayList$Itr" (37 : Nat) "java/util/ArrayList" "elementData" "[Ljava/lang/Object;") ∈ lw_all := lw_g (lw_at lw_m1 64 rfl) rfl
theorem q120 : (Jvm.Cond.fieldLinkNest "java/util/ArrayList$Itr" (28 : Nat) "java/util/ArrayList" "size" "I" "java/util/ArrayList") ∈ lw_tbl := lw_at lw_m1 65 rfl
theorem q123 : (Jvm.Cond.fieldLink "java/util/ArrayList$Itr" (17 : Nat) "java/util/ArrayList" "modCount" "I") ∈ lw_all := lw_g (lw_at lw_m1 68 rfl) rfl
theorem q199 : (Jvm.Cond.selects "java/util/ArrayList$Itr" ({ cls := "java/lang/Object", name := "getClass", desc := "()Ljava/lang/Class;" } : Jvm.MethodName) ({ cls := "java/lang/Object", name := "getClass", desc := "()Ljava/lang/Class;" } : Jvm.MethodName)) ∈ lw_all := lw_g (lw_at lw_m1 144 rfl) rfl
theorem q419 : (Jvm.Cond.instantiable "java/util/ArrayList$Itr" (4 : Nat)) ∈ lw_all := lw_g (lw_at lw_m2 124 rfl) rfl
theorem q421 : (Jvm.Cond.instanceMethod ({ cls := "java/util/ArrayList$Itr", name := "<init>", desc := "(Ljava/util/ArrayList;)V" } : Jvm.MethodName)) ∈ lw_all := lw_g (lw_at lw_m2 126 rfl) rfl
theorem q422 : (Jvm.Cond.code ({ cls := "java/util/ArrayList$Itr", name := "<init>", desc := "(Ljava/util/ArrayList;)V" } : Jvm.MethodName) prog_38_method_1_code (2 : Nat) (Option.none : Option Jvm.ClassFile.FieldType)) ∈ lw_all := lw_g (lw_at lw_m2 127 rfl) rfl
theorem q423 : (Jvm.Cond.methodLink "java/util/ArrayList$Itr" (7 : Nat) ({ cls := "java/lang/Object", name := "<init>", desc := "()V" } : Jvm.MethodName)) ∈ lw_all := lw_g (lw_at lw_m2 128 rfl) rfl
theorem q424 : (Jvm.Cond.fieldLink "java/util/ArrayList$Itr" (25 : Nat) "java/util/ArrayList$Itr" "cursor" "I") ∈ lw_all := lw_g (lw_at lw_m2 129 rfl) rfl
theorem q425 : (Jvm.Cond.fieldLink "java/util/ArrayList$Itr" (13 : Nat) "java/util/ArrayList$Itr" "lastRet" "I") ∈ lw_all := lw_g (lw_at lw_m2 130 rfl) rfl
theorem q426 : (Jvm.Cond.fieldLink "java/util/ArrayList$Itr" (22 : Nat) "java/util/ArrayList$Itr" "expectedModCount" "I") ∈ lw_all := lw_g (lw_at lw_m2 131 rfl) rfl
theorem q427 : (Jvm.Cond.fieldLink "java/util/ArrayList$Itr" (1 : Nat) "java/util/ArrayList$Itr" "this$0" "Ljava/util/ArrayList;") ∈ lw_all := lw_g (lw_at lw_m2 132 rfl) rfl
theorem q428 : (Jvm.Cond.lays "java/util/ArrayList$Itr" "java/util/ArrayList$Itr" "cursor" "I") ∈ lw_all := lw_g (lw_at lw_m2 133 rfl) rfl
theorem q429 : (Jvm.Cond.soleField "java/util/ArrayList$Itr" "cursor") ∈ lw_all := lw_g (lw_at lw_m2 134 rfl) rfl
theorem q430 : (Jvm.Cond.lays "java/util/ArrayList$Itr" "java/util/ArrayList$Itr" "lastRet" "I") ∈ lw_all := lw_g (lw_at lw_m2 135 rfl) rfl
theorem q431 : (Jvm.Cond.soleField "java/util/ArrayList$Itr" "lastRet") ∈ lw_all := lw_g (lw_at lw_m2 136 rfl) rfl
theorem q432 : (Jvm.Cond.lays "java/util/ArrayList$Itr" "java/util/ArrayList$Itr" "expectedModCount" "I") ∈ lw_all := lw_g (lw_at lw_m2 137 rfl) rfl
theorem q433 : (Jvm.Cond.soleField "java/util/ArrayList$Itr" "expectedModCount") ∈ lw_all := lw_g (lw_at lw_m2 138 rfl) rfl
theorem q434 : (Jvm.Cond.laysFinal "java/util/ArrayList$Itr" "java/util/ArrayList$Itr" "this$0" "Ljava/util/ArrayList;") ∈ lw_all := lw_g (lw_at lw_m2 139 rfl) rfl
theorem q435 : (Jvm.Cond.soleField "java/util/ArrayList$Itr" "this$0") ∈ lw_all := lw_g (lw_at lw_m2 140 rfl) rfl
theorem q436 : (Jvm.Cond.superclass "java/util/ArrayList$Itr" "java/lang/Object") ∈ lw_all := lw_g (lw_at lw_m2 141 rfl) rfl
theorem q441 : (Jvm.Cond.castable "java/util/ArrayList$Itr" "java/util/Iterator") ∈ lw_tbl := lw_at lw_m2 146 rfl
theorem q442 : (Jvm.Cond.selects "java/util/ArrayList$Itr" ({ cls := "java/util/Iterator", name := "hasNext", desc := "()Z" } : Jvm.MethodName) ({ cls := "java/util/ArrayList$Itr", name := "hasNext", desc := "()Z" } : Jvm.MethodName)) ∈ lw_all := lw_g (lw_at lw_m2 147 rfl) rfl
theorem q443 : (Jvm.Cond.unhidden "java/util/ArrayList$Itr" "hasNext" "()Z") ∈ lw_tbl := lw_at lw_m2 148 rfl
theorem q444 : (Jvm.Cond.instanceMethod ({ cls := "java/util/ArrayList$Itr", name := "hasNext", desc := "()Z" } : Jvm.MethodName)) ∈ lw_all := lw_g (lw_at lw_m2 149 rfl) rfl
theorem q445 : (Jvm.Cond.publicMethod ({ cls := "java/util/ArrayList$Itr", name := "hasNext", desc := "()Z" } : Jvm.MethodName)) ∈ lw_tbl := lw_at lw_m2 150 rfl
theorem q446 : (Jvm.Cond.code ({ cls := "java/util/ArrayList$Itr", name := "hasNext", desc := "()Z" } : Jvm.MethodName) prog_38_method_2_code (1 : Nat) (Option.some Jvm.ClassFile.FieldType.boolean)) ∈ lw_all := lw_g (lw_at lw_m2 151 rfl) rfl
theorem q451 : (Jvm.Cond.selects "java/util/ArrayList$Itr" ({ cls := "java/util/Iterator", name := "next", desc := "()Ljava/lang/Object;" } : Jvm.MethodName) ({ cls := "java/util/ArrayList$Itr", name := "next", desc := "()Ljava/lang/Object;" } : Jvm.MethodName)) ∈ lw_all := lw_g (lw_at lw_m2 156 rfl) rfl
theorem q452 : (Jvm.Cond.unhidden "java/util/ArrayList$Itr" "next" "()Ljava/lang/Object;") ∈ lw_tbl := lw_at lw_m2 157 rfl
theorem q453 : (Jvm.Cond.instanceMethod ({ cls := "java/util/ArrayList$Itr", name := "next", desc := "()Ljava/lang/Object;" } : Jvm.MethodName)) ∈ lw_all := lw_g (lw_at lw_m2 158 rfl) rfl
theorem q454 : (Jvm.Cond.publicMethod ({ cls := "java/util/ArrayList$Itr", name := "next", desc := "()Ljava/lang/Object;" } : Jvm.MethodName)) ∈ lw_tbl := lw_at lw_m2 159 rfl
theorem q455 : (Jvm.Cond.code ({ cls := "java/util/ArrayList$Itr", name := "next", desc := "()Ljava/lang/Object;" } : Jvm.MethodName) prog_38_method_3_code (3 : Nat) (Option.some (Jvm.ClassFile.FieldType.object "java/lang/Object"))) ∈ lw_all := lw_g (lw_at lw_m2 160 rfl) rfl
theorem q456 : (Jvm.Cond.methodLink "java/util/ArrayList$Itr" (31 : Nat) ({ cls := "java/util/ArrayList$Itr", name := "checkForComodification", desc := "()V" } : Jvm.MethodName)) ∈ lw_all := lw_g (lw_at lw_m2 161 rfl) rfl
theorem q457 : (Jvm.Cond.instanceMethod ({ cls := "java/util/ArrayList$Itr", name := "checkForComodification", desc := "()V" } : Jvm.MethodName)) ∈ lw_all := lw_g (lw_at lw_m2 162 rfl) rfl
theorem q458 : (Jvm.Cond.selects "java/util/ArrayList$Itr" ({ cls := "java/util/ArrayList$Itr", name := "checkForComodification", desc := "()V" } : Jvm.MethodName) ({ cls := "java/util/ArrayList$Itr", name := "checkForComodification", desc := "()V" } : Jvm.MethodName)) ∈ lw_all := lw_g (lw_at lw_m2 163 rfl) rfl
theorem q459 : (Jvm.Cond.code ({ cls := "java/util/ArrayList$Itr", name := "checkForComodification", desc := "()V" } : Jvm.MethodName) prog_38_method_6_code (1 : Nat) (Option.none : Option Jvm.ClassFile.FieldType)) ∈ lw_all := lw_g (lw_at lw_m2 164 rfl) rfl
theorem q460 : (Jvm.Cond.classLink "java/util/ArrayList$Itr" (34 : Nat) "java/util/NoSuchElementException") ∈ lw_all := lw_g (lw_at lw_m2 165 rfl) rfl
theorem q469 : (Jvm.Cond.methodLink "java/util/ArrayList$Itr" (36 : Nat) ({ cls := "java/util/NoSuchElementException", name := "<init>", desc := "()V" } : Jvm.MethodName)) ∈ lw_all := lw_g (lw_at lw_m2 174 rfl) rfl
theorem q1893 : (Jvm.Cond.castable "java/util/ArrayList$Itr" "java/lang/Object") ∈ lw_tbl := lw_at lw_m8 158 rfl
theorem in_J19 : ∀ w ∈ wsJ190, w ∈ lw_all := lw_in wsJ190 [428, 430, 432, 434] (by decide +kernel) (by decide +kernel)

/-! java/util/NoSuchElementException -/
set_option maxRecDepth 100000
def RJ20 : String := "java/util/NoSuchElementException"
def TJ20 : u_T := fun k => match k with
  | 0 => ("java/lang/Throwable", "cause", "Ljava/lang/Throwable;", false)
  | 1 => ("java/lang/Throwable", "stackTrace", "[Ljava/lang/StackTraceElement;", false)
  | 2 => ("java/lang/Throwable", "suppressedExceptions", "Ljava/util/List;", false)
  | 3 => ("java/lang/Throwable", "detailMessage", "Ljava/lang/String;", false)
  | 4 => ("java/lang/Throwable", "backtrace", "Ljava/lang/Object;", false)
  | _ => ("java/lang/Throwable", "depth", "I", false)
def tyJ20 : Nat → FieldType := fun k => match k with
  | 0 => .object "java/lang/Throwable"
  | 1 => .array (.object "java/lang/StackTraceElement")
  | 2 => .object "java/util/List"
  | 3 => .object "java/lang/String"
  | 4 => .object "java/lang/Object"
  | _ => .int
abbrev wsJ200 : List Cond := u_ws RJ20 TJ20 6
theorem nmJ20 : ∀ a, a < 6 → ∀ b, b < 6 → a ≠ b → (TJ20 a).2.1 ≠ (TJ20 b).2.1 := by decide +kernel
theorem tyJ20_ok : ∀ k, k < 6 → parseFieldDescriptor (TJ20 k).2.2.1 = some (tyJ20 k) := by decide +kernel
abbrev cJ20_init : ByteArray := prog_44_method_1_code
def yJ20_init : MethodName := ⟨RJ20, "<init>", "()V"⟩
theorem dJ20_init_0 : decode cJ20_init 0 = .ok (.aload_n 0, 1) := by decide +kernel
theorem dJ20_init_1 : decode cJ20_init 1 = .ok (.invokespecial 1, 3) := by decide +kernel
theorem dJ20_init_4 : decode cJ20_init 4 = .ok (.return_, 1) := by decide +kernel
theorem q82 : (Jvm.Cond.initialized "java/util/NoSuchElementException") ∈ lw_all := lw_g (lw_at lw_m1 27 rfl) rfl
theorem q200 : (Jvm.Cond.selects "java/util/NoSuchElementException" ({ cls := "java/lang/Object", name := "getClass", desc := "()Ljava/lang/Class;" } : Jvm.MethodName) ({ cls := "java/lang/Object", name := "getClass", desc := "()Ljava/lang/Class;" } : Jvm.MethodName)) ∈ lw_all := lw_g (lw_at lw_m1 145 rfl) rfl
theorem q277 : (Jvm.Cond.selects "java/util/NoSuchElementException" ({ cls := "java/lang/Throwable", name := "fillInStackTrace", desc := "()Ljava/lang/Throwable;" } : Jvm.MethodName) ({ cls := "java/lang/Throwable", name := "fillInStackTrace", desc := "()Ljava/lang/Throwable;" } : Jvm.MethodName)) ∈ lw_all := lw_g (lw_at lw_m1 222 rfl) rfl
theorem q461 : (Jvm.Cond.instantiable "java/util/NoSuchElementException" (6 : Nat)) ∈ lw_all := lw_g (lw_at lw_m2 166 rfl) rfl
theorem q462 : (Jvm.Cond.castable "java/util/NoSuchElementException" "java/util/NoSuchElementException") ∈ lw_tbl := lw_at lw_m2 167 rfl
theorem q463 : (Jvm.Cond.selects "java/util/NoSuchElementException" ({ cls := "java/lang/Throwable", name := "fillInStackTrace", desc := "(I)Ljava/lang/Throwable;" } : Jvm.MethodName) ({ cls := "java/lang/Throwable", name := "fillInStackTrace", desc := "(I)Ljava/lang/Throwable;" } : Jvm.MethodName)) ∈ lw_all := lw_g (lw_at lw_m2 168 rfl) rfl
theorem q464 : (Jvm.Cond.lays "java/util/NoSuchElementException" "java/lang/Throwable" "cause" "Ljava/lang/Throwable;") ∈ lw_all := lw_g (lw_at lw_m2 169 rfl) rfl
theorem q465 : (Jvm.Cond.lays "java/util/NoSuchElementException" "java/lang/Throwable" "stackTrace" "[Ljava/lang/StackTraceElement;") ∈ lw_all := lw_g (lw_at lw_m2 170 rfl) rfl
theorem q466 : (Jvm.Cond.lays "java/util/NoSuchElementException" "java/lang/Throwable" "suppressedExceptions" "Ljava/util/List;") ∈ lw_all := lw_g (lw_at lw_m2 171 rfl) rfl
theorem q467 : (Jvm.Cond.lays "java/util/NoSuchElementException" "java/lang/Throwable" "detailMessage" "Ljava/lang/String;") ∈ lw_all := lw_g (lw_at lw_m2 172 rfl) rfl
theorem q468 : (Jvm.Cond.lays "java/util/NoSuchElementException" "java/lang/Throwable" "backtrace" "Ljava/lang/Object;") ∈ lw_all := lw_g (lw_at lw_m2 173 rfl) rfl
theorem q470 : (Jvm.Cond.instanceMethod ({ cls := "java/util/NoSuchElementException", name := "<init>", desc := "()V" } : Jvm.MethodName)) ∈ lw_all := lw_g (lw_at lw_m2 175 rfl) rfl
theorem q471 : (Jvm.Cond.code ({ cls := "java/util/NoSuchElementException", name := "<init>", desc := "()V" } : Jvm.MethodName) prog_44_method_1_code (1 : Nat) (Option.none : Option Jvm.ClassFile.FieldType)) ∈ lw_all := lw_g (lw_at lw_m2 176 rfl) rfl
theorem q472 : (Jvm.Cond.methodLink "java/util/NoSuchElementException" (1 : Nat) ({ cls := "java/lang/RuntimeException", name := "<init>", desc := "()V" } : Jvm.MethodName)) ∈ lw_all := lw_g (lw_at lw_m2 177 rfl) rfl
theorem q473 : (Jvm.Cond.lays "java/util/NoSuchElementException" "java/lang/Throwable" "depth" "I") ∈ lw_all := lw_g (lw_at lw_m2 178 rfl) rfl
theorem q474 : (Jvm.Cond.superclass "java/util/NoSuchElementException" "java/lang/RuntimeException") ∈ lw_all := lw_g (lw_at lw_m2 179 rfl) rfl
theorem q1894 : (Jvm.Cond.castable "java/util/NoSuchElementException" "java/lang/Object") ∈ lw_tbl := lw_at lw_m8 159 rfl
theorem in_J20 : ∀ w ∈ wsJ200, w ∈ lw_all := lw_in wsJ200 [464, 465, 466, 467, 468, 473] (by decide +kernel) (by decide +kernel)

/-! java/lang/IllegalStateException -/
set_option maxRecDepth 100000
def RJ21 : String := "java/lang/IllegalStateException"
def TJ21 : u_T := fun k => match k with
  | 0 => ("java/lang/Throwable", "cause", "Ljava/lang/Throwable;", false)
  | 1 => ("java/lang/Throwable", "stackTrace", "[Ljava/lang/StackTraceElement;", false)
  | 2 => ("java/lang/Throwable", "suppressedExceptions", "Ljava/util/List;", false)
  | 3 => ("java/lang/Throwable", "detailMessage", "Ljava/lang/String;", false)
  | 4 => ("java/lang/Throwable", "backtrace", "Ljava/lang/Object;", false)
  | _ => ("java/lang/Throwable", "depth", "I", false)
def tyJ21 : Nat → FieldType := fun k => match k with
  | 0 => .object "java/lang/Throwable"
  | 1 => .array (.object "java/lang/StackTraceElement")
  | 2 => .object "java/util/List"
  | 3 => .object "java/lang/String"
  | 4 => .object "java/lang/Object"
  | _ => .int
abbrev wsJ210 : List Cond := u_ws RJ21 TJ21 6
theorem nmJ21 : ∀ a, a < 6 → ∀ b, b < 6 → a ≠ b → (TJ21 a).2.1 ≠ (TJ21 b).2.1 := by decide +kernel
theorem tyJ21_ok : ∀ k, k < 6 → parseFieldDescriptor (TJ21 k).2.2.1 = some (tyJ21 k) := by decide +kernel
abbrev cJ21_init : ByteArray := prog_17_method_1_code
def yJ21_init : MethodName := ⟨RJ21, "<init>", "()V"⟩
theorem dJ21_init_0 : decode cJ21_init 0 = .ok (.aload_n 0, 1) := by decide +kernel
theorem dJ21_init_1 : decode cJ21_init 1 = .ok (.invokespecial 1, 3) := by decide +kernel
theorem dJ21_init_4 : decode cJ21_init 4 = .ok (.return_, 1) := by decide +kernel
theorem q83 : (Jvm.Cond.initialized "java/lang/IllegalStateException") ∈ lw_all := lw_g (lw_at lw_m1 28 rfl) rfl
theorem q193 : (Jvm.Cond.selects "java/lang/IllegalStateException" ({ cls := "java/lang/Object", name := "getClass", desc := "()Ljava/lang/Class;" } : Jvm.MethodName) ({ cls := "java/lang/Object", name := "getClass", desc := "()Ljava/lang/Class;" } : Jvm.MethodName)) ∈ lw_all := lw_g (lw_at lw_m1 138 rfl) rfl
theorem q275 : (Jvm.Cond.selects "java/lang/IllegalStateException" ({ cls := "java/lang/Throwable", name := "fillInStackTrace", desc := "()Ljava/lang/Throwable;" } : Jvm.MethodName) ({ cls := "java/lang/Throwable", name := "fillInStackTrace", desc := "()Ljava/lang/Throwable;" } : Jvm.MethodName)) ∈ lw_all := lw_g (lw_at lw_m1 220 rfl) rfl
theorem q1104 : (Jvm.Cond.instantiable "java/lang/IllegalStateException" (6 : Nat)) ∈ lw_all := lw_g (lw_at lw_m5 89 rfl) rfl
theorem q1105 : (Jvm.Cond.castable "java/lang/IllegalStateException" "java/lang/IllegalStateException") ∈ lw_tbl := lw_at lw_m5 90 rfl
theorem q1106 : (Jvm.Cond.selects "java/lang/IllegalStateException" ({ cls := "java/lang/Throwable", name := "fillInStackTrace", desc := "(I)Ljava/lang/Throwable;" } : Jvm.MethodName) ({ cls := "java/lang/Throwable", name := "fillInStackTrace", desc := "(I)Ljava/lang/Throwable;" } : Jvm.MethodName)) ∈ lw_all := lw_g (lw_at lw_m5 91 rfl) rfl
theorem q1107 : (Jvm.Cond.lays "java/lang/IllegalStateException" "java/lang/Throwable" "cause" "Ljava/lang/Throwable;") ∈ lw_all := lw_g (lw_at lw_m5 92 rfl) rfl
theorem q1108 : (Jvm.Cond.lays "java/lang/IllegalStateException" "java/lang/Throwable" "stackTrace" "[Ljava/lang/StackTraceElement;") ∈ lw_all := lw_g (lw_at lw_m5 93 rfl) rfl
theorem q1109 : (Jvm.Cond.lays "java/lang/IllegalStateException" "java/lang/Throwable" "suppressedExceptions" "Ljava/util/List;") ∈ lw_all := lw_g (lw_at lw_m5 94 rfl) rfl
theorem q1110 : (Jvm.Cond.lays "java/lang/IllegalStateException" "java/lang/Throwable" "detailMessage" "Ljava/lang/String;") ∈ lw_all := lw_g (lw_at lw_m5 95 rfl) rfl
theorem q1111 : (Jvm.Cond.lays "java/lang/IllegalStateException" "java/lang/Throwable" "backtrace" "Ljava/lang/Object;") ∈ lw_all := lw_g (lw_at lw_m5 96 rfl) rfl
theorem q1113 : (Jvm.Cond.instanceMethod ({ cls := "java/lang/IllegalStateException", name := "<init>", desc := "()V" } : Jvm.MethodName)) ∈ lw_all := lw_g (lw_at lw_m5 98 rfl) rfl
theorem q1114 : (Jvm.Cond.code ({ cls := "java/lang/IllegalStateException", name := "<init>", desc := "()V" } : Jvm.MethodName) prog_17_method_1_code (1 : Nat) (Option.none : Option Jvm.ClassFile.FieldType)) ∈ lw_all := lw_g (lw_at lw_m5 99 rfl) rfl
theorem q1115 : (Jvm.Cond.methodLink "java/lang/IllegalStateException" (1 : Nat) ({ cls := "java/lang/RuntimeException", name := "<init>", desc := "()V" } : Jvm.MethodName)) ∈ lw_all := lw_g (lw_at lw_m5 100 rfl) rfl
theorem q1116 : (Jvm.Cond.lays "java/lang/IllegalStateException" "java/lang/Throwable" "depth" "I") ∈ lw_all := lw_g (lw_at lw_m5 101 rfl) rfl
theorem q1117 : (Jvm.Cond.superclass "java/lang/IllegalStateException" "java/lang/RuntimeException") ∈ lw_all := lw_g (lw_at lw_m5 102 rfl) rfl
theorem q1895 : (Jvm.Cond.castable "java/lang/IllegalStateException" "java/lang/Object") ∈ lw_tbl := lw_at lw_m8 160 rfl
theorem in_J21 : ∀ w ∈ wsJ210, w ∈ lw_all := lw_in wsJ210 [1107, 1108, 1109, 1110, 1111, 1116] (by decide +kernel) (by decide +kernel)

/-! java/lang/Object -/
set_option maxRecDepth 100000
def RJ28 : String := "java/lang/Object"
abbrev cJ28_init : ByteArray := object_method_1_code
def yJ28_init : MethodName := ⟨RJ28, "<init>", "()V"⟩
theorem dJ28_init_0 : decode cJ28_init 0 = .ok (.return_, 1) := by decide +kernel
theorem q99 : (Jvm.Cond.instanceMethod ({ cls := "java/lang/Object", name := "<init>", desc := "()V" } : Jvm.MethodName)) ∈ lw_all := lw_g (lw_at lw_m1 44 rfl) rfl
theorem q100 : (Jvm.Cond.code ({ cls := "java/lang/Object", name := "<init>", desc := "()V" } : Jvm.MethodName) object_method_1_code (1 : Nat) (Option.none : Option Jvm.ClassFile.FieldType)) ∈ lw_all := lw_g (lw_at lw_m1 45 rfl) rfl
theorem q183 : (Jvm.Cond.instanceMethod ({ cls := "java/lang/Object", name := "getClass", desc := "()Ljava/lang/Class;" } : Jvm.MethodName)) ∈ lw_all := lw_g (lw_at lw_m1 128 rfl) rfl
theorem q184 : (Jvm.Cond.sameMethod "java/lang/Object" "java/lang/Object" "getClass" "()Ljava/lang/Class;") ∈ lw_all := lw_g (lw_at lw_m1 129 rfl) rfl
theorem q203 : (Jvm.Cond.native ({ cls := "java/lang/Object", name := "getClass", desc := "()Ljava/lang/Class;" } : Jvm.MethodName)) ∈ lw_all := lw_g (lw_at lw_m1 148 rfl) rfl
theorem q1214 : (Jvm.Cond.native ({ cls := "java/lang/Object", name := "clone", desc := "()Ljava/lang/Object;" } : Jvm.MethodName)) ∈ lw_all := lw_g (lw_at lw_m5 199 rfl) rfl
theorem q1215 : (Jvm.Cond.instanceMethod ({ cls := "java/lang/Object", name := "clone", desc := "()Ljava/lang/Object;" } : Jvm.MethodName)) ∈ lw_all := lw_g (lw_at lw_m5 200 rfl) rfl
theorem q1881 : (Jvm.Cond.initialized "java/lang/Object") ∈ lw_all := lw_g (lw_at lw_m8 146 rfl) rfl
theorem q1904 : (Jvm.Cond.declares ({ cls := "java/lang/Object", name := "getClass", desc := "()Ljava/lang/Class;" } : Jvm.MethodName)) ∈ lw_tbl := lw_at lw_m8 169 rfl

/-! ChoreAssignment$ByCost -/
set_option maxRecDepth 100000
def RX2 : String := "ChoreAssignment$ByCost"
abbrev cX2_init : ByteArray := prog_3_method_1_code
def yX2_init : MethodName := ⟨RX2, "<init>", "()V"⟩
theorem dX2_init_0 : decode cX2_init 0 = .ok (.aload_n 0, 1) := by decide +kernel
theorem dX2_init_1 : decode cX2_init 1 = .ok (.invokespecial 1, 3) := by decide +kernel
theorem dX2_init_4 : decode cX2_init 4 = .ok (.return_, 1) := by decide +kernel
abbrev cX2_compare : ByteArray := prog_3_method_3_code
def yX2_compare : MethodName := ⟨RX2, "compare", "(Ljava/lang/Object;Ljava/lang/Object;)I"⟩
def dkwX2_compare_0 : List UInt8 := [42, 43, 192, 0, 8, 44, 192, 0, 8, 182, 0, 22, 172]
abbrev dktX2_compare_0 : List UInt8 := dkwX2_compare_0 ++ []
theorem dksX2_compare_0 : cX2_compare.data.toList.drop 0 = dktX2_compare_0 := by decide +kernel
theorem dX2_compare_0 : decode cX2_compare 0 = .ok (.aload_n 0, 1) := dk_42 (dk_at dksX2_compare_0 0 rfl rfl)
theorem dX2_compare_1 : decode cX2_compare 1 = .ok (.aload_n 1, 1) := dk_43 (dk_at dksX2_compare_0 1 rfl rfl)
theorem dX2_compare_2 : decode cX2_compare 2 = .ok (.checkcast 8, 3) := dk_192 0 8 (dk_at dksX2_compare_0 2 rfl rfl)
theorem dX2_compare_5 : decode cX2_compare 5 = .ok (.aload_n 2, 1) := dk_44 (dk_at dksX2_compare_0 5 rfl rfl)
theorem dX2_compare_6 : decode cX2_compare 6 = .ok (.checkcast 8, 3) := dk_192 0 8 (dk_at dksX2_compare_0 6 rfl rfl)
theorem dX2_compare_9 : decode cX2_compare 9 = .ok (.invokevirtual 22, 3) := dk_182 0 22 (dk_at dksX2_compare_0 9 rfl rfl)
theorem dX2_compare_12 : decode cX2_compare 12 = .ok (.ireturn, 1) := dk_172 (dk_at dksX2_compare_0 12 rfl rfl)
abbrev cX2_compare_2 : ByteArray := prog_3_method_2_code
def yX2_compare_2 : MethodName := ⟨RX2, "compare", "(LChoreAssignment$Way;LChoreAssignment$Way;)I"⟩
def dkwX2_compare_2_1 : List UInt8 := [167, 0, 14, 43, 180, 0, 19, 44, 180, 0, 19, 184, 0, 13, 172]
abbrev dktX2_compare_2_1 : List UInt8 := dkwX2_compare_2_1 ++ []
def dkwX2_compare_2_0 : List UInt8 := [43, 180, 0, 7, 44, 180, 0, 7, 159, 0, 17, 43, 180, 0, 7, 44, 180, 0, 7, 184, 0, 13]
abbrev dktX2_compare_2_0 : List UInt8 := dkwX2_compare_2_0 ++ dktX2_compare_2_1
theorem dksX2_compare_2_0 : cX2_compare_2.data.toList.drop 0 = dktX2_compare_2_0 := by decide +kernel
theorem dksX2_compare_2_1 : cX2_compare_2.data.toList.drop 22 = dktX2_compare_2_1 := dk_seg dksX2_compare_2_0 22 rfl rfl
theorem dX2_compare_2_0 : decode cX2_compare_2 0 = .ok (.aload_n 1, 1) := dk_43 (dk_at dksX2_compare_2_0 0 rfl rfl)
theorem dX2_compare_2_1 : decode cX2_compare_2 1 = .ok (.getfield 7, 3) := dk_180 0 7 (dk_at dksX2_compare_2_0 1 rfl rfl)
theorem dX2_compare_2_4 : decode cX2_compare_2 4 = .ok (.aload_n 2, 1) := dk_44 (dk_at dksX2_compare_2_0 4 rfl rfl)
theorem dX2_compare_2_5 : decode cX2_compare_2 5 = .ok (.getfield 7, 3) := dk_180 0 7 (dk_at dksX2_compare_2_0 5 rfl rfl)
theorem dX2_compare_2_8 : decode cX2_compare_2 8 = .ok (.if_icmp .eq 17, 3) := dk_159 0 17 (dk_at dksX2_compare_2_0 8 rfl rfl)
theorem dX2_compare_2_11 : decode cX2_compare_2 11 = .ok (.aload_n 1, 1) := dk_43 (dk_at dksX2_compare_2_0 11 rfl rfl)
theorem dX2_compare_2_12 : decode cX2_compare_2 12 = .ok (.getfield 7, 3) := dk_180 0 7 (dk_at dksX2_compare_2_0 12 rfl rfl)
theorem dX2_compare_2_15 : decode cX2_compare_2 15 = .ok (.aload_n 2, 1) := dk_44 (dk_at dksX2_compare_2_0 15 rfl rfl)
theorem dX2_compare_2_16 : decode cX2_compare_2 16 = .ok (.getfield 7, 3) := dk_180 0 7 (dk_at dksX2_compare_2_0 16 rfl rfl)
theorem dX2_compare_2_19 : decode cX2_compare_2 19 = .ok (.invokestatic 13, 3) := dk_184 0 13 (dk_at dksX2_compare_2_0 19 rfl rfl)
theorem dX2_compare_2_22 : decode cX2_compare_2 22 = .ok (.goto 14, 3) := dk_167 0 14 (dk_at dksX2_compare_2_1 0 rfl rfl)
theorem dX2_compare_2_25 : decode cX2_compare_2 25 = .ok (.aload_n 1, 1) := dk_43 (dk_at dksX2_compare_2_1 3 rfl rfl)
theorem dX2_compare_2_26 : decode cX2_compare_2 26 = .ok (.getfield 19, 3) := dk_180 0 19 (dk_at dksX2_compare_2_1 4 rfl rfl)
theorem dX2_compare_2_29 : decode cX2_compare_2 29 = .ok (.aload_n 2, 1) := dk_44 (dk_at dksX2_compare_2_1 7 rfl rfl)
theorem dX2_compare_2_30 : decode cX2_compare_2 30 = .ok (.getfield 19, 3) := dk_180 0 19 (dk_at dksX2_compare_2_1 8 rfl rfl)
theorem dX2_compare_2_33 : decode cX2_compare_2 33 = .ok (.invokestatic 13, 3) := dk_184 0 13 (dk_at dksX2_compare_2_1 11 rfl rfl)
theorem dX2_compare_2_36 : decode cX2_compare_2 36 = .ok (.ireturn, 1) := dk_172 (dk_at dksX2_compare_2_1 14 rfl rfl)
theorem q69 : (Jvm.Cond.initialized "ChoreAssignment$ByCost") ∈ lw_all := lw_g (lw_at lw_m1 14 rfl) rfl
theorem q187 : (Jvm.Cond.selects "ChoreAssignment$ByCost" ({ cls := "java/lang/Object", name := "getClass", desc := "()Ljava/lang/Class;" } : Jvm.MethodName) ({ cls := "java/lang/Object", name := "getClass", desc := "()Ljava/lang/Class;" } : Jvm.MethodName)) ∈ lw_all := lw_g (lw_at lw_m1 132 rfl) rfl
theorem q223 : (Jvm.Cond.instantiable "ChoreAssignment$ByCost" (0 : Nat)) ∈ lw_all := lw_g (lw_at lw_m1 168 rfl) rfl
theorem q225 : (Jvm.Cond.instanceMethod ({ cls := "ChoreAssignment$ByCost", name := "<init>", desc := "()V" } : Jvm.MethodName)) ∈ lw_all := lw_g (lw_at lw_m1 170 rfl) rfl
theorem q226 : (Jvm.Cond.code ({ cls := "ChoreAssignment$ByCost", name := "<init>", desc := "()V" } : Jvm.MethodName) prog_3_method_1_code (1 : Nat) (Option.none : Option Jvm.ClassFile.FieldType)) ∈ lw_all := lw_g (lw_at lw_m1 171 rfl) rfl
theorem q227 : (Jvm.Cond.methodLink "ChoreAssignment$ByCost" (1 : Nat) ({ cls := "java/lang/Object", name := "<init>", desc := "()V" } : Jvm.MethodName)) ∈ lw_all := lw_g (lw_at lw_m1 172 rfl) rfl
theorem q228 : (Jvm.Cond.superclass "ChoreAssignment$ByCost" "java/lang/Object") ∈ lw_all := lw_g (lw_at lw_m1 173 rfl) rfl
theorem q590 : (Jvm.Cond.fieldLinkNest "ChoreAssignment$ByCost" (7 : Nat) "ChoreAssignment$Way" "cost" "I" "ChoreAssignment") ∈ lw_tbl := lw_at lw_m3 55 rfl
theorem q592 : (Jvm.Cond.fieldLinkNest "ChoreAssignment$ByCost" (19 : Nat) "ChoreAssignment$Way" "order" "I" "ChoreAssignment") ∈ lw_tbl := lw_at lw_m3 57 rfl
theorem q637 : (Jvm.Cond.castable "ChoreAssignment$ByCost" "java/util/Comparator") ∈ lw_tbl := lw_at lw_m3 102 rfl
theorem q638 : (Jvm.Cond.selects "ChoreAssignment$ByCost" ({ cls := "java/util/Comparator", name := "compare", desc := "(Ljava/lang/Object;Ljava/lang/Object;)I" } : Jvm.MethodName) ({ cls := "ChoreAssignment$ByCost", name := "compare", desc := "(Ljava/lang/Object;Ljava/lang/Object;)I" } : Jvm.MethodName)) ∈ lw_all := lw_g (lw_at lw_m3 103 rfl) rfl
theorem q639 : (Jvm.Cond.unhidden "ChoreAssignment$ByCost" "compare" "(Ljava/lang/Object;Ljava/lang/Object;)I") ∈ lw_tbl := lw_at lw_m3 104 rfl
theorem q640 : (Jvm.Cond.instanceMethod ({ cls := "ChoreAssignment$ByCost", name := "compare", desc := "(Ljava/lang/Object;Ljava/lang/Object;)I" } : Jvm.MethodName)) ∈ lw_all := lw_g (lw_at lw_m3 105 rfl) rfl
theorem q641 : (Jvm.Cond.publicMethod ({ cls := "ChoreAssignment$ByCost", name := "compare", desc := "(Ljava/lang/Object;Ljava/lang/Object;)I" } : Jvm.MethodName)) ∈ lw_tbl := lw_at lw_m3 106 rfl
theorem q642 : (Jvm.Cond.code ({ cls := "ChoreAssignment$ByCost", name := "compare", desc := "(Ljava/lang/Object;Ljava/lang/Object;)I" } : Jvm.MethodName) prog_3_method_3_code (3 : Nat) (Option.some Jvm.ClassFile.FieldType.int)) ∈ lw_all := lw_g (lw_at lw_m3 107 rfl) rfl
theorem q643 : (Jvm.Cond.classLink "ChoreAssignment$ByCost" (8 : Nat) "ChoreAssignment$Way") ∈ lw_all := lw_g (lw_at lw_m3 108 rfl) rfl
theorem q644 : (Jvm.Cond.methodLink "ChoreAssignment$ByCost" (22 : Nat) ({ cls := "ChoreAssignment$ByCost", name := "compare", desc := "(LChoreAssignment$Way;LChoreAssignment$Way;)I" } : Jvm.MethodName)) ∈ lw_all := lw_g (lw_at lw_m3 109 rfl) rfl
theorem q645 : (Jvm.Cond.instanceMethod ({ cls := "ChoreAssignment$ByCost", name := "compare", desc := "(LChoreAssignment$Way;LChoreAssignment$Way;)I" } : Jvm.MethodName)) ∈ lw_all := lw_g (lw_at lw_m3 110 rfl) rfl
theorem q646 : (Jvm.Cond.selects "ChoreAssignment$ByCost" ({ cls := "ChoreAssignment$ByCost", name := "compare", desc := "(LChoreAssignment$Way;LChoreAssignment$Way;)I" } : Jvm.MethodName) ({ cls := "ChoreAssignment$ByCost", name := "compare", desc := "(LChoreAssignment$Way;LChoreAssignment$Way;)I" } : Jvm.MethodName)) ∈ lw_all := lw_g (lw_at lw_m3 111 rfl) rfl
theorem q647 : (Jvm.Cond.code ({ cls := "ChoreAssignment$ByCost", name := "compare", desc := "(LChoreAssignment$Way;LChoreAssignment$Way;)I" } : Jvm.MethodName) prog_3_method_2_code (3 : Nat) (Option.some Jvm.ClassFile.FieldType.int)) ∈ lw_all := lw_g (lw_at lw_m3 112 rfl) rfl
theorem q648 : (Jvm.Cond.methodLink "ChoreAssignment$ByCost" (13 : Nat) ({ cls := "java/lang/Integer", name := "compare", desc := "(II)I" } : Jvm.MethodName)) ∈ lw_all := lw_g (lw_at lw_m3 113 rfl) rfl
theorem q1887 : (Jvm.Cond.castable "ChoreAssignment$ByCost" "java/lang/Object") ∈ lw_tbl := lw_at lw_m8 152 rfl

/-! ChoreAssignment$ByBound -/
set_option maxRecDepth 100000
def RX3 : String := "ChoreAssignment$ByBound"
abbrev cX3_init : ByteArray := prog_2_method_1_code
def yX3_init : MethodName := ⟨RX3, "<init>", "()V"⟩
theorem dX3_init_0 : decode cX3_init 0 = .ok (.aload_n 0, 1) := by decide +kernel
theorem dX3_init_1 : decode cX3_init 1 = .ok (.invokespecial 1, 3) := by decide +kernel
theorem dX3_init_4 : decode cX3_init 4 = .ok (.return_, 1) := by decide +kernel
abbrev cX3_compare : ByteArray := prog_2_method_3_code
def yX3_compare : MethodName := ⟨RX3, "compare", "(Ljava/lang/Object;Ljava/lang/Object;)I"⟩
def dkwX3_compare_0 : List UInt8 := [42, 43, 192, 0, 8, 44, 192, 0, 8, 182, 0, 25, 172]
abbrev dktX3_compare_0 : List UInt8 := dkwX3_compare_0 ++ []
theorem dksX3_compare_0 : cX3_compare.data.toList.drop 0 = dktX3_compare_0 := by decide +kernel
theorem dX3_compare_0 : decode cX3_compare 0 = .ok (.aload_n 0, 1) := dk_42 (dk_at dksX3_compare_0 0 rfl rfl)
theorem dX3_compare_1 : decode cX3_compare 1 = .ok (.aload_n 1, 1) := dk_43 (dk_at dksX3_compare_0 1 rfl rfl)
theorem dX3_compare_2 : decode cX3_compare 2 = .ok (.checkcast 8, 3) := dk_192 0 8 (dk_at dksX3_compare_0 2 rfl rfl)
theorem dX3_compare_5 : decode cX3_compare 5 = .ok (.aload_n 2, 1) := dk_44 (dk_at dksX3_compare_0 5 rfl rfl)
theorem dX3_compare_6 : decode cX3_compare 6 = .ok (.checkcast 8, 3) := dk_192 0 8 (dk_at dksX3_compare_0 6 rfl rfl)
theorem dX3_compare_9 : decode cX3_compare 9 = .ok (.invokevirtual 25, 3) := dk_182 0 25 (dk_at dksX3_compare_0 9 rfl rfl)
theorem dX3_compare_12 : decode cX3_compare 12 = .ok (.ireturn, 1) := dk_172 (dk_at dksX3_compare_0 12 rfl rfl)
abbrev cX3_compare_2 : ByteArray := prog_2_method_2_code
def yX3_compare_2 : MethodName := ⟨RX3, "compare", "(LChoreAssignment$Part;LChoreAssignment$Part;)I"⟩
def dkwX3_compare_2_2 : List UInt8 := [43, 180, 0, 22, 44, 180, 0, 22, 184, 0, 13, 172]
abbrev dktX3_compare_2_2 : List UInt8 := dkwX3_compare_2_2 ++ []
def dkwX3_compare_2_1 : List UInt8 := [180, 0, 19, 44, 180, 0, 19, 159, 0, 17, 43, 180, 0, 19, 44, 180, 0, 19, 184, 0, 13, 167, 0, 14]
abbrev dktX3_compare_2_1 : List UInt8 := dkwX3_compare_2_1 ++ dktX3_compare_2_2
def dkwX3_compare_2_0 : List UInt8 := [43, 180, 0, 7, 44, 180, 0, 7, 159, 0, 15, 43, 180, 0, 7, 44, 180, 0, 7, 184, 0, 13, 172, 43]
abbrev dktX3_compare_2_0 : List UInt8 := dkwX3_compare_2_0 ++ dktX3_compare_2_1
theorem dksX3_compare_2_0 : cX3_compare_2.data.toList.drop 0 = dktX3_compare_2_0 := by decide +kernel
theorem dksX3_compare_2_1 : cX3_compare_2.data.toList.drop 24 = dktX3_compare_2_1 := dk_seg dksX3_compare_2_0 24 rfl rfl
theorem dksX3_compare_2_2 : cX3_compare_2.data.toList.drop 48 = dktX3_compare_2_2 := dk_seg dksX3_compare_2_1 24 rfl rfl
theorem dX3_compare_2_0 : decode cX3_compare_2 0 = .ok (.aload_n 1, 1) := dk_43 (dk_at dksX3_compare_2_0 0 rfl rfl)
theorem dX3_compare_2_1 : decode cX3_compare_2 1 = .ok (.getfield 7, 3) := dk_180 0 7 (dk_at dksX3_compare_2_0 1 rfl rfl)
theorem dX3_compare_2_4 : decode cX3_compare_2 4 = .ok (.aload_n 2, 1) := dk_44 (dk_at dksX3_compare_2_0 4 rfl rfl)
theorem dX3_compare_2_5 : decode cX3_compare_2 5 = .ok (.getfield 7, 3) := dk_180 0 7 (dk_at dksX3_compare_2_0 5 rfl rfl)
theorem dX3_compare_2_8 : decode cX3_compare_2 8 = .ok (.if_icmp .eq 15, 3) := dk_159 0 15 (dk_at dksX3_compare_2_0 8 rfl rfl)
theorem dX3_compare_2_11 : decode cX3_compare_2 11 = .ok (.aload_n 1, 1) := dk_43 (dk_at dksX3_compare_2_0 11 rfl rfl)
theorem dX3_compare_2_12 : decode cX3_compare_2 12 = .ok (.getfield 7, 3) := dk_180 0 7 (dk_at dksX3_compare_2_0 12 rfl rfl)
theorem dX3_compare_2_15 : decode cX3_compare_2 15 = .ok (.aload_n 2, 1) := dk_44 (dk_at dksX3_compare_2_0 15 rfl rfl)
theorem dX3_compare_2_16 : decode cX3_compare_2 16 = .ok (.getfield 7, 3) := dk_180 0 7 (dk_at dksX3_compare_2_0 16 rfl rfl)
theorem dX3_compare_2_19 : decode cX3_compare_2 19 = .ok (.invokestatic 13, 3) := dk_184 0 13 (dk_at dksX3_compare_2_0 19 rfl rfl)
theorem dX3_compare_2_22 : decode cX3_compare_2 22 = .ok (.ireturn, 1) := dk_172 (dk_at dksX3_compare_2_0 22 rfl rfl)
theorem dX3_compare_2_23 : decode cX3_compare_2 23 = .ok (.aload_n 1, 1) := dk_43 (dk_at dksX3_compare_2_0 23 rfl rfl)
theorem dX3_compare_2_24 : decode cX3_compare_2 24 = .ok (.getfield 19, 3) := dk_180 0 19 (dk_at dksX3_compare_2_1 0 rfl rfl)
theorem dX3_compare_2_27 : decode cX3_compare_2 27 = .ok (.aload_n 2, 1) := dk_44 (dk_at dksX3_compare_2_1 3 rfl rfl)
theorem dX3_compare_2_28 : decode cX3_compare_2 28 = .ok (.getfield 19, 3) := dk_180 0 19 (dk_at dksX3_compare_2_1 4 rfl rfl)
theorem dX3_compare_2_31 : decode cX3_compare_2 31 = .ok (.if_icmp .eq 17, 3) := dk_159 0 17 (dk_at dksX3_compare_2_1 7 rfl rfl)
theorem dX3_compare_2_34 : decode cX3_compare_2 34 = .ok (.aload_n 1, 1) := dk_43 (dk_at dksX3_compare_2_1 10 rfl rfl)
theorem dX3_compare_2_35 : decode cX3_compare_2 35 = .ok (.getfield 19, 3) := dk_180 0 19 (dk_at dksX3_compare_2_1 11 rfl rfl)
theorem dX3_compare_2_38 : decode cX3_compare_2 38 = .ok (.aload_n 2, 1) := dk_44 (dk_at dksX3_compare_2_1 14 rfl rfl)
theorem dX3_compare_2_39 : decode cX3_compare_2 39 = .ok (.getfield 19, 3) := dk_180 0 19 (dk_at dksX3_compare_2_1 15 rfl rfl)
theorem dX3_compare_2_42 : decode cX3_compare_2 42 = .ok (.invokestatic 13, 3) := dk_184 0 13 (dk_at dksX3_compare_2_1 18 rfl rfl)
theorem dX3_compare_2_45 : decode cX3_compare_2 45 = .ok (.goto 14, 3) := dk_167 0 14 (dk_at dksX3_compare_2_1 21 rfl rfl)
theorem dX3_compare_2_48 : decode cX3_compare_2 48 = .ok (.aload_n 1, 1) := dk_43 (dk_at dksX3_compare_2_2 0 rfl rfl)
theorem dX3_compare_2_49 : decode cX3_compare_2 49 = .ok (.getfield 22, 3) := dk_180 0 22 (dk_at dksX3_compare_2_2 1 rfl rfl)
theorem dX3_compare_2_52 : decode cX3_compare_2 52 = .ok (.aload_n 2, 1) := dk_44 (dk_at dksX3_compare_2_2 4 rfl rfl)
theorem dX3_compare_2_53 : decode cX3_compare_2 53 = .ok (.getfield 22, 3) := dk_180 0 22 (dk_at dksX3_compare_2_2 5 rfl rfl)
theorem dX3_compare_2_56 : decode cX3_compare_2 56 = .ok (.invokestatic 13, 3) := dk_184 0 13 (dk_at dksX3_compare_2_2 8 rfl rfl)
theorem dX3_compare_2_59 : decode cX3_compare_2 59 = .ok (.ireturn, 1) := dk_172 (dk_at dksX3_compare_2_2 11 rfl rfl)
theorem q74 : (Jvm.Cond.initialized "ChoreAssignment$ByBound") ∈ lw_all := lw_g (lw_at lw_m1 19 rfl) rfl
theorem q186 : (Jvm.Cond.selects "ChoreAssignment$ByBound" ({ cls := "java/lang/Object", name := "getClass", desc := "()Ljava/lang/Class;" } : Jvm.MethodName) ({ cls := "java/lang/Object", name := "getClass", desc := "()Ljava/lang/Class;" } : Jvm.MethodName)) ∈ lw_all := lw_g (lw_at lw_m1 131 rfl) rfl
theorem q322 : (Jvm.Cond.instantiable "ChoreAssignment$ByBound" (0 : Nat)) ∈ lw_all := lw_g (lw_at lw_m2 27 rfl) rfl
theorem q324 : (Jvm.Cond.instanceMethod ({ cls := "ChoreAssignment$ByBound", name := "<init>", desc := "()V" } : Jvm.MethodName)) ∈ lw_all := lw_g (lw_at lw_m2 29 rfl) rfl
theorem q325 : (Jvm.Cond.code ({ cls := "ChoreAssignment$ByBound", name := "<init>", desc := "()V" } : Jvm.MethodName) prog_2_method_1_code (1 : Nat) (Option.none : Option Jvm.ClassFile.FieldType)) ∈ lw_all := lw_g (lw_at lw_m2 30 rfl) rfl
theorem q326 : (Jvm.Cond.methodLink "ChoreAssignment$ByBound" (1 : Nat) ({ cls := "java/lang/Object", name := "<init>", desc := "()V" } : Jvm.MethodName)) ∈ lw_all := lw_g (lw_at lw_m2 31 rfl) rfl
theorem q327 : (Jvm.Cond.superclass "ChoreAssignment$ByBound" "java/lang/Object") ∈ lw_all := lw_g (lw_at lw_m2 32 rfl) rfl
theorem q623 : (Jvm.Cond.castable "ChoreAssignment$ByBound" "java/util/Comparator") ∈ lw_tbl := lw_at lw_m3 88 rfl
theorem q624 : (Jvm.Cond.selects "ChoreAssignment$ByBound" ({ cls := "java/util/Comparator", name := "compare", desc := "(Ljava/lang/Object;Ljava/lang/Object;)I" } : Jvm.MethodName) ({ cls := "ChoreAssignment$ByBound", name := "compare", desc := "(Ljava/lang/Object;Ljava/lang/Object;)I" } : Jvm.MethodName)) ∈ lw_all := lw_g (lw_at lw_m3 89 rfl) rfl
theorem q625 : (Jvm.Cond.unhidden "ChoreAssignment$ByBound" "compare" "(Ljava/lang/Object;Ljava/lang/Object;)I") ∈ lw_tbl := lw_at lw_m3 90 rfl
theorem q626 : (Jvm.Cond.instanceMethod ({ cls := "ChoreAssignment$ByBound", name := "compare", desc := "(Ljava/lang/Object;Ljava/lang/Object;)I" } : Jvm.MethodName)) ∈ lw_all := lw_g (lw_at lw_m3 91 rfl) rfl
theorem q627 : (Jvm.Cond.publicMethod ({ cls := "ChoreAssignment$ByBound", name := "compare", desc := "(Ljava/lang/Object;Ljava/lang/Object;)I" } : Jvm.MethodName)) ∈ lw_tbl := lw_at lw_m3 92 rfl
theorem q628 : (Jvm.Cond.code ({ cls := "ChoreAssignment$ByBound", name := "compare", desc := "(Ljava/lang/Object;Ljava/lang/Object;)I" } : Jvm.MethodName) prog_2_method_3_code (3 : Nat) (Option.some Jvm.ClassFile.FieldType.int)) ∈ lw_all := lw_g (lw_at lw_m3 93 rfl) rfl
theorem q629 : (Jvm.Cond.classLink "ChoreAssignment$ByBound" (8 : Nat) "ChoreAssignment$Part") ∈ lw_all := lw_g (lw_at lw_m3 94 rfl) rfl
theorem q630 : (Jvm.Cond.methodLink "ChoreAssignment$ByBound" (25 : Nat) ({ cls := "ChoreAssignment$ByBound", name := "compare", desc := "(LChoreAssignment$Part;LChoreAssignment$Part;)I" } : Jvm.MethodName)) ∈ lw_all := lw_g (lw_at lw_m3 95 rfl) rfl
theorem q631 : (Jvm.Cond.instanceMethod ({ cls := "ChoreAssignment$ByBound", name := "compare", desc := "(LChoreAssignment$Part;LChoreAssignment$Part;)I" } : Jvm.MethodName)) ∈ lw_all := lw_g (lw_at lw_m3 96 rfl) rfl
theorem q632 : (Jvm.Cond.selects "ChoreAssignment$ByBound" ({ cls := "ChoreAssignment$ByBound", name := "compare", desc := "(LChoreAssignment$Part;LChoreAssignment$Part;)I" } : Jvm.MethodName) ({ cls := "ChoreAssignment$ByBound", name := "compare", desc := "(LChoreAssignment$Part;LChoreAssignment$Part;)I" } : Jvm.MethodName)) ∈ lw_all := lw_g (lw_at lw_m3 97 rfl) rfl
theorem q633 : (Jvm.Cond.code ({ cls := "ChoreAssignment$ByBound", name := "compare", desc := "(LChoreAssignment$Part;LChoreAssignment$Part;)I" } : Jvm.MethodName) prog_2_method_2_code (3 : Nat) (Option.some Jvm.ClassFile.FieldType.int)) ∈ lw_all := lw_g (lw_at lw_m3 98 rfl) rfl
theorem q634 : (Jvm.Cond.methodLink "ChoreAssignment$ByBound" (13 : Nat) ({ cls := "java/lang/Integer", name := "compare", desc := "(II)I" } : Jvm.MethodName)) ∈ lw_all := lw_g (lw_at lw_m3 99 rfl) rfl
theorem q1457 : (Jvm.Cond.fieldLinkNest "ChoreAssignment$ByBound" (7 : Nat) "ChoreAssignment$Part" "bound" "I" "ChoreAssignment") ∈ lw_tbl := lw_at lw_m6 202 rfl
theorem q1460 : (Jvm.Cond.fieldLinkNest "ChoreAssignment$ByBound" (19 : Nat) "ChoreAssignment$Part" "rows" "I" "ChoreAssignment") ∈ lw_tbl := lw_at lw_m6 205 rfl
theorem q1463 : (Jvm.Cond.fieldLinkNest "ChoreAssignment$ByBound" (22 : Nat) "ChoreAssignment$Part" "code" "I" "ChoreAssignment") ∈ lw_tbl := lw_at lw_m6 208 rfl
theorem q1889 : (Jvm.Cond.castable "ChoreAssignment$ByBound" "java/lang/Object") ∈ lw_tbl := lw_at lw_m8 154 rfl

/-! ChoreAssignment$Way -/
set_option maxRecDepth 100000
def RX5 : String := "ChoreAssignment$Way"
def TX5 : u_T := fun k => match k with
  | 0 => ("ChoreAssignment$Way", "cost", "I", true)
  | 1 => ("ChoreAssignment$Way", "order", "I", true)
  | _ => ("ChoreAssignment$Way", "end", "I", true)
def tyX5 : Nat → FieldType := fun k => match k with
  | 0 => .int
  | 1 => .int
  | _ => .int
abbrev wsX50 : List Cond := u_ws RX5 TX5 3
theorem nmX5 : ∀ a, a < 3 → ∀ b, b < 3 → a ≠ b → (TX5 a).2.1 ≠ (TX5 b).2.1 := by decide +kernel
theorem tyX5_ok : ∀ k, k < 3 → parseFieldDescriptor (TX5 k).2.2.1 = some (tyX5 k) := by decide +kernel
abbrev cX5_init : ByteArray := prog_5_method_1_code
def yX5_init : MethodName := ⟨RX5, "<init>", "(III)V"⟩
def dkwX5_init_0 : List UInt8 := [42, 183, 0, 1, 42, 27, 181, 0, 7, 42, 28, 181, 0, 13, 42, 29, 181, 0, 16, 177]
abbrev dktX5_init_0 : List UInt8 := dkwX5_init_0 ++ []
theorem dksX5_init_0 : cX5_init.data.toList.drop 0 = dktX5_init_0 := by decide +kernel
theorem dX5_init_0 : decode cX5_init 0 = .ok (.aload_n 0, 1) := dk_42 (dk_at dksX5_init_0 0 rfl rfl)
theorem dX5_init_1 : decode cX5_init 1 = .ok (.invokespecial 1, 3) := dk_183 0 1 (dk_at dksX5_init_0 1 rfl rfl)
theorem dX5_init_4 : decode cX5_init 4 = .ok (.aload_n 0, 1) := dk_42 (dk_at dksX5_init_0 4 rfl rfl)
theorem dX5_init_5 : decode cX5_init 5 = .ok (.iload_n 1, 1) := dk_27 (dk_at dksX5_init_0 5 rfl rfl)
theorem dX5_init_6 : decode cX5_init 6 = .ok (.putfield 7, 3) := dk_181 0 7 (dk_at dksX5_init_0 6 rfl rfl)
theorem dX5_init_9 : decode cX5_init 9 = .ok (.aload_n 0, 1) := dk_42 (dk_at dksX5_init_0 9 rfl rfl)
theorem dX5_init_10 : decode cX5_init 10 = .ok (.iload_n 2, 1) := dk_28 (dk_at dksX5_init_0 10 rfl rfl)
theorem dX5_init_11 : decode cX5_init 11 = .ok (.putfield 13, 3) := dk_181 0 13 (dk_at dksX5_init_0 11 rfl rfl)
theorem dX5_init_14 : decode cX5_init 14 = .ok (.aload_n 0, 1) := dk_42 (dk_at dksX5_init_0 14 rfl rfl)
theorem dX5_init_15 : decode cX5_init 15 = .ok (.iload_n 3, 1) := dk_29 (dk_at dksX5_init_0 15 rfl rfl)
theorem dX5_init_16 : decode cX5_init 16 = .ok (.putfield 16, 3) := dk_181 0 16 (dk_at dksX5_init_0 16 rfl rfl)
theorem dX5_init_19 : decode cX5_init 19 = .ok (.return_, 1) := dk_177 (dk_at dksX5_init_0 19 rfl rfl)
theorem q88 : (Jvm.Cond.initialized "ChoreAssignment$Way") ∈ lw_all := lw_g (lw_at lw_m1 33 rfl) rfl
theorem q189 : (Jvm.Cond.selects "ChoreAssignment$Way" ({ cls := "java/lang/Object", name := "getClass", desc := "()Ljava/lang/Class;" } : Jvm.MethodName) ({ cls := "java/lang/Object", name := "getClass", desc := "()Ljava/lang/Class;" } : Jvm.MethodName)) ∈ lw_all := lw_g (lw_at lw_m1 134 rfl) rfl
theorem q584 : (Jvm.Cond.instantiable "ChoreAssignment$Way" (3 : Nat)) ∈ lw_all := lw_g (lw_at lw_m3 49 rfl) rfl
theorem q586 : (Jvm.Cond.instanceMethod ({ cls := "ChoreAssignment$Way", name := "<init>", desc := "(III)V" } : Jvm.MethodName)) ∈ lw_all := lw_g (lw_at lw_m3 51 rfl) rfl
theorem q587 : (Jvm.Cond.code ({ cls := "ChoreAssignment$Way", name := "<init>", desc := "(III)V" } : Jvm.MethodName) prog_5_method_1_code (4 : Nat) (Option.none : Option Jvm.ClassFile.FieldType)) ∈ lw_all := lw_g (lw_at lw_m3 52 rfl) rfl
theorem q588 : (Jvm.Cond.methodLink "ChoreAssignment$Way" (1 : Nat) ({ cls := "java/lang/Object", name := "<init>", desc := "()V" } : Jvm.MethodName)) ∈ lw_all := lw_g (lw_at lw_m3 53 rfl) rfl
theorem q589 : (Jvm.Cond.fieldLink "ChoreAssignment$Way" (7 : Nat) "ChoreAssignment$Way" "cost" "I") ∈ lw_all := lw_g (lw_at lw_m3 54 rfl) rfl
theorem q591 : (Jvm.Cond.fieldLink "ChoreAssignment$Way" (13 : Nat) "ChoreAssignment$Way" "order" "I") ∈ lw_all := lw_g (lw_at lw_m3 56 rfl) rfl
theorem q593 : (Jvm.Cond.fieldLink "ChoreAssignment$Way" (16 : Nat) "ChoreAssignment$Way" "end" "I") ∈ lw_all := lw_g (lw_at lw_m3 58 rfl) rfl
theorem q595 : (Jvm.Cond.laysFinal "ChoreAssignment$Way" "ChoreAssignment$Way" "cost" "I") ∈ lw_all := lw_g (lw_at lw_m3 60 rfl) rfl
theorem q596 : (Jvm.Cond.soleField "ChoreAssignment$Way" "cost") ∈ lw_all := lw_g (lw_at lw_m3 61 rfl) rfl
theorem q597 : (Jvm.Cond.laysFinal "ChoreAssignment$Way" "ChoreAssignment$Way" "order" "I") ∈ lw_all := lw_g (lw_at lw_m3 62 rfl) rfl
theorem q598 : (Jvm.Cond.soleField "ChoreAssignment$Way" "order") ∈ lw_all := lw_g (lw_at lw_m3 63 rfl) rfl
theorem q599 : (Jvm.Cond.laysFinal "ChoreAssignment$Way" "ChoreAssignment$Way" "end" "I") ∈ lw_all := lw_g (lw_at lw_m3 64 rfl) rfl
theorem q600 : (Jvm.Cond.soleField "ChoreAssignment$Way" "end") ∈ lw_all := lw_g (lw_at lw_m3 65 rfl) rfl
theorem q601 : (Jvm.Cond.superclass "ChoreAssignment$Way" "java/lang/Object") ∈ lw_all := lw_g (lw_at lw_m3 66 rfl) rfl
theorem q1898 : (Jvm.Cond.castable "ChoreAssignment$Way" "java/lang/Object") ∈ lw_tbl := lw_at lw_m8 163 rfl
theorem in_X5 : ∀ w ∈ wsX50, w ∈ lw_all := lw_in wsX50 [595, 597, 599] (by decide +kernel) (by decide +kernel)

/-! ChoreAssignment$Part -/
set_option maxRecDepth 100000
def RX6 : String := "ChoreAssignment$Part"
def TX6 : u_T := fun k => match k with
  | 0 => ("ChoreAssignment$Part", "bound", "I", true)
  | 1 => ("ChoreAssignment$Part", "rows", "I", true)
  | 2 => ("ChoreAssignment$Part", "code", "I", true)
  | _ => ("ChoreAssignment$Part", "used", "I", true)
def tyX6 : Nat → FieldType := fun k => match k with
  | 0 => .int
  | 1 => .int
  | 2 => .int
  | _ => .int
abbrev wsX60 : List Cond := u_ws RX6 TX6 4
theorem nmX6 : ∀ a, a < 4 → ∀ b, b < 4 → a ≠ b → (TX6 a).2.1 ≠ (TX6 b).2.1 := by decide +kernel
theorem tyX6_ok : ∀ k, k < 4 → parseFieldDescriptor (TX6 k).2.2.1 = some (tyX6 k) := by decide +kernel
abbrev cX6_init : ByteArray := prog_4_method_1_code
def yX6_init : MethodName := ⟨RX6, "<init>", "(IIII)V"⟩
def dkwX6_init_1 : List UInt8 := [181, 0, 19, 177]
abbrev dktX6_init_1 : List UInt8 := dkwX6_init_1 ++ []
def dkwX6_init_0 : List UInt8 := [42, 183, 0, 1, 42, 27, 181, 0, 7, 42, 28, 181, 0, 13, 42, 29, 181, 0, 16, 42, 21, 4]
abbrev dktX6_init_0 : List UInt8 := dkwX6_init_0 ++ dktX6_init_1
theorem dksX6_init_0 : cX6_init.data.toList.drop 0 = dktX6_init_0 := by decide +kernel
theorem dksX6_init_1 : cX6_init.data.toList.drop 22 = dktX6_init_1 := dk_seg dksX6_init_0 22 rfl rfl
theorem dX6_init_0 : decode cX6_init 0 = .ok (.aload_n 0, 1) := dk_42 (dk_at dksX6_init_0 0 rfl rfl)
theorem dX6_init_1 : decode cX6_init 1 = .ok (.invokespecial 1, 3) := dk_183 0 1 (dk_at dksX6_init_0 1 rfl rfl)
theorem dX6_init_4 : decode cX6_init 4 = .ok (.aload_n 0, 1) := dk_42 (dk_at dksX6_init_0 4 rfl rfl)
theorem dX6_init_5 : decode cX6_init 5 = .ok (.iload_n 1, 1) := dk_27 (dk_at dksX6_init_0 5 rfl rfl)
theorem dX6_init_6 : decode cX6_init 6 = .ok (.putfield 7, 3) := dk_181 0 7 (dk_at dksX6_init_0 6 rfl rfl)
theorem dX6_init_9 : decode cX6_init 9 = .ok (.aload_n 0, 1) := dk_42 (dk_at dksX6_init_0 9 rfl rfl)
theorem dX6_init_10 : decode cX6_init 10 = .ok (.iload_n 2, 1) := dk_28 (dk_at dksX6_init_0 10 rfl rfl)
theorem dX6_init_11 : decode cX6_init 11 = .ok (.putfield 13, 3) := dk_181 0 13 (dk_at dksX6_init_0 11 rfl rfl)
theorem dX6_init_14 : decode cX6_init 14 = .ok (.aload_n 0, 1) := dk_42 (dk_at dksX6_init_0 14 rfl rfl)
theorem dX6_init_15 : decode cX6_init 15 = .ok (.iload_n 3, 1) := dk_29 (dk_at dksX6_init_0 15 rfl rfl)
theorem dX6_init_16 : decode cX6_init 16 = .ok (.putfield 16, 3) := dk_181 0 16 (dk_at dksX6_init_0 16 rfl rfl)
theorem dX6_init_19 : decode cX6_init 19 = .ok (.aload_n 0, 1) := dk_42 (dk_at dksX6_init_0 19 rfl rfl)
theorem dX6_init_20 : decode cX6_init 20 = .ok (.iload 4, 2) := dk_21 4 (dk_at dksX6_init_0 20 rfl rfl)
theorem dX6_init_22 : decode cX6_init 22 = .ok (.putfield 19, 3) := dk_181 0 19 (dk_at dksX6_init_1 0 rfl rfl)
theorem dX6_init_25 : decode cX6_init 25 = .ok (.return_, 1) := dk_177 (dk_at dksX6_init_1 3 rfl rfl)
theorem q92 : (Jvm.Cond.initialized "ChoreAssignment$Part") ∈ lw_all := lw_g (lw_at lw_m1 37 rfl) rfl
theorem q188 : (Jvm.Cond.selects "ChoreAssignment$Part" ({ cls := "java/lang/Object", name := "getClass", desc := "()Ljava/lang/Class;" } : Jvm.MethodName) ({ cls := "java/lang/Object", name := "getClass", desc := "()Ljava/lang/Class;" } : Jvm.MethodName)) ∈ lw_all := lw_g (lw_at lw_m1 133 rfl) rfl
theorem q1451 : (Jvm.Cond.instantiable "ChoreAssignment$Part" (4 : Nat)) ∈ lw_all := lw_g (lw_at lw_m6 196 rfl) rfl
theorem q1453 : (Jvm.Cond.instanceMethod ({ cls := "ChoreAssignment$Part", name := "<init>", desc := "(IIII)V" } : Jvm.MethodName)) ∈ lw_all := lw_g (lw_at lw_m6 198 rfl) rfl
theorem q1454 : (Jvm.Cond.code ({ cls := "ChoreAssignment$Part", name := "<init>", desc := "(IIII)V" } : Jvm.MethodName) prog_4_method_1_code (5 : Nat) (Option.none : Option Jvm.ClassFile.FieldType)) ∈ lw_all := lw_g (lw_at lw_m6 199 rfl) rfl
theorem q1455 : (Jvm.Cond.methodLink "ChoreAssignment$Part" (1 : Nat) ({ cls := "java/lang/Object", name := "<init>", desc := "()V" } : Jvm.MethodName)) ∈ lw_all := lw_g (lw_at lw_m6 200 rfl) rfl
theorem q1456 : (Jvm.Cond.fieldLink "ChoreAssignment$Part" (7 : Nat) "ChoreAssignment$Part" "bound" "I") ∈ lw_all := lw_g (lw_at lw_m6 201 rfl) rfl
theorem q1459 : (Jvm.Cond.fieldLink "ChoreAssignment$Part" (13 : Nat) "ChoreAssignment$Part" "rows" "I") ∈ lw_all := lw_g (lw_at lw_m6 204 rfl) rfl
theorem q1462 : (Jvm.Cond.fieldLink "ChoreAssignment$Part" (16 : Nat) "ChoreAssignment$Part" "code" "I") ∈ lw_all := lw_g (lw_at lw_m6 207 rfl) rfl
theorem q1465 : (Jvm.Cond.fieldLink "ChoreAssignment$Part" (19 : Nat) "ChoreAssignment$Part" "used" "I") ∈ lw_all := lw_g (lw_at lw_m6 210 rfl) rfl
theorem q1467 : (Jvm.Cond.laysFinal "ChoreAssignment$Part" "ChoreAssignment$Part" "bound" "I") ∈ lw_all := lw_g (lw_at lw_m6 212 rfl) rfl
theorem q1468 : (Jvm.Cond.soleField "ChoreAssignment$Part" "bound") ∈ lw_all := lw_g (lw_at lw_m6 213 rfl) rfl
theorem q1469 : (Jvm.Cond.laysFinal "ChoreAssignment$Part" "ChoreAssignment$Part" "rows" "I") ∈ lw_all := lw_g (lw_at lw_m6 214 rfl) rfl
theorem q1470 : (Jvm.Cond.soleField "ChoreAssignment$Part" "rows") ∈ lw_all := lw_g (lw_at lw_m6 215 rfl) rfl
theorem q1471 : (Jvm.Cond.laysFinal "ChoreAssignment$Part" "ChoreAssignment$Part" "code" "I") ∈ lw_all := lw_g (lw_at lw_m6 216 rfl) rfl
theorem q1472 : (Jvm.Cond.soleField "ChoreAssignment$Part" "code") ∈ lw_all := lw_g (lw_at lw_m6 217 rfl) rfl
theorem q1473 : (Jvm.Cond.laysFinal "ChoreAssignment$Part" "ChoreAssignment$Part" "used" "I") ∈ lw_all := lw_g (lw_at lw_m6 218 rfl) rfl
theorem q1474 : (Jvm.Cond.soleField "ChoreAssignment$Part" "used") ∈ lw_all := lw_g (lw_at lw_m6 219 rfl) rfl
theorem q1475 : (Jvm.Cond.superclass "ChoreAssignment$Part" "java/lang/Object") ∈ lw_all := lw_g (lw_at lw_m6 220 rfl) rfl
theorem q1900 : (Jvm.Cond.castable "ChoreAssignment$Part" "java/lang/Object") ∈ lw_tbl := lw_at lw_m8 165 rfl
theorem in_X6 : ∀ w ∈ wsX60, w ∈ lw_all := lw_in wsX60 [1467, 1469, 1471, 1473] (by decide +kernel) (by decide +kernel)

theorem q1213 : (Jvm.Cond.sameMethod "[B" "java/lang/Object" "clone" "()Ljava/lang/Object;") ∈ lw_all := lw_g (lw_at lw_m5 198 rfl) rfl
set_option maxRecDepth 100000
theorem q1216 : (Jvm.Cond.selects "[B" ({ cls := "[B", name := "clone", desc := "()Ljava/lang/Object;" } : Jvm.MethodName) ({ cls := "java/lang/Object", name := "clone", desc := "()Ljava/lang/Object;" } : Jvm.MethodName)) ∈ lw_all := lw_g (lw_at lw_m5 201 rfl) rfl
theorem q1217 : (Jvm.Cond.castable "[B" "java/lang/Cloneable") ∈ lw_tbl := lw_at lw_m5 202 rfl
theorem q1909 : (Jvm.Cond.castable "[B" "java/lang/Object") ∈ lw_tbl := lw_at lw_m8 174 rfl

theorem q1911 : (Jvm.Cond.castable "[D" "java/lang/Object") ∈ lw_tbl := lw_at lw_m8 176 rfl
set_option maxRecDepth 100000

theorem q1907 : (Jvm.Cond.castable "[I" "java/lang/Object") ∈ lw_tbl := lw_at lw_m8 172 rfl
set_option maxRecDepth 100000

theorem q1910 : (Jvm.Cond.castable "[J" "java/lang/Object") ∈ lw_tbl := lw_at lw_m8 175 rfl
set_option maxRecDepth 100000

theorem q1902 : (Jvm.Cond.sameMethod "[Ljava/lang/Object;" "java/lang/Object" "getClass" "()Ljava/lang/Class;") ∈ lw_all := lw_g (lw_at lw_m8 167 rfl) rfl
set_option maxRecDepth 100000
theorem q1903 : (Jvm.Cond.selects "[Ljava/lang/Object;" ({ cls := "java/lang/Object", name := "getClass", desc := "()Ljava/lang/Class;" } : Jvm.MethodName) ({ cls := "java/lang/Object", name := "getClass", desc := "()Ljava/lang/Class;" } : Jvm.MethodName)) ∈ lw_all := lw_g (lw_at lw_m8 168 rfl) rfl
theorem q1905 : (Jvm.Cond.castable "[Ljava/lang/Object;" "java/lang/Object") ∈ lw_tbl := lw_at lw_m8 170 rfl

theorem q1908 : (Jvm.Cond.castable "[Z" "java/lang/Object") ∈ lw_tbl := lw_at lw_m8 173 rfl
set_option maxRecDepth 100000

theorem q1906 : (Jvm.Cond.castable "[[I" "java/lang/Object") ∈ lw_tbl := lw_at lw_m8 171 rfl
set_option maxRecDepth 100000

theorem q655 : (Jvm.Cond.interfaceMethod "java/lang/Comparable" "java/lang/Comparable" "compareTo" "(Ljava/lang/Object;)I") ∈ lw_tbl := lw_at lw_m3 120 rfl
set_option maxRecDepth 100000
theorem q656 : (Jvm.Cond.declares ({ cls := "java/lang/Comparable", name := "compareTo", desc := "(Ljava/lang/Object;)I" } : Jvm.MethodName)) ∈ lw_tbl := lw_at lw_m3 121 rfl

theorem q62 : (Jvm.Cond.initialized "java/lang/Integer$IntegerCache") ∈ lw_all := lw_g (lw_at lw_m1 7 rfl) rfl
set_option maxRecDepth 100000
theorem q137 : (Jvm.Cond.laysStatic "java/lang/Integer$IntegerCache" "high" "I") ∈ lw_tbl := lw_at lw_m1 82 rfl
theorem q139 : (Jvm.Cond.laysStatic "java/lang/Integer$IntegerCache" "cache" "[Ljava/lang/Integer;") ∈ lw_tbl := lw_at lw_m1 84 rfl

theorem q66 : (Jvm.Cond.initialized "java/lang/System") ∈ lw_all := lw_g (lw_at lw_m1 11 rfl) rfl
set_option maxRecDepth 100000
theorem q214 : (Jvm.Cond.static ({ cls := "java/lang/System", name := "arraycopy", desc := "(Ljava/lang/Object;ILjava/lang/Object;II)V" } : Jvm.MethodName)) ∈ lw_all := lw_g (lw_at lw_m1 159 rfl) rfl
theorem q215 : (Jvm.Cond.native ({ cls := "java/lang/System", name := "arraycopy", desc := "(Ljava/lang/Object;ILjava/lang/Object;II)V" } : Jvm.MethodName)) ∈ lw_all := lw_g (lw_at lw_m1 160 rfl) rfl

theorem q621 : (Jvm.Cond.interfaceMethod "java/util/Comparator" "java/util/Comparator" "compare" "(Ljava/lang/Object;Ljava/lang/Object;)I") ∈ lw_tbl := lw_at lw_m3 86 rfl
set_option maxRecDepth 100000
theorem q622 : (Jvm.Cond.declares ({ cls := "java/util/Comparator", name := "compare", desc := "(Ljava/lang/Object;Ljava/lang/Object;)I" } : Jvm.MethodName)) ∈ lw_tbl := lw_at lw_m3 87 rfl

theorem q439 : (Jvm.Cond.interfaceMethod "java/util/Iterator" "java/util/Iterator" "hasNext" "()Z") ∈ lw_tbl := lw_at lw_m2 144 rfl
set_option maxRecDepth 100000
theorem q440 : (Jvm.Cond.declares ({ cls := "java/util/Iterator", name := "hasNext", desc := "()Z" } : Jvm.MethodName)) ∈ lw_tbl := lw_at lw_m2 145 rfl
theorem q449 : (Jvm.Cond.interfaceMethod "java/util/Iterator" "java/util/Iterator" "next" "()Ljava/lang/Object;") ∈ lw_tbl := lw_at lw_m2 154 rfl
theorem q450 : (Jvm.Cond.declares ({ cls := "java/util/Iterator", name := "next", desc := "()Ljava/lang/Object;" } : Jvm.MethodName)) ∈ lw_tbl := lw_at lw_m2 155 rfl

theorem q90 : (Jvm.Cond.initialized "jdk/internal/misc/UnsafeConstants") ∈ lw_all := lw_g (lw_at lw_m1 35 rfl) rfl
set_option maxRecDepth 100000
theorem q732 : (Jvm.Cond.laysStatic "jdk/internal/misc/UnsafeConstants" "BIG_ENDIAN" "Z") ∈ lw_tbl := lw_at lw_m3 197 rfl

theorem q208 : (Jvm.Cond.arrayOver (Jvm.ClassFile.FieldType.object "java/lang/Object")) ∈ lw_tbl := lw_at lw_m1 153 rfl
set_option maxRecDepth 100000
theorem q219 : (Jvm.Cond.arrayOver (Jvm.ClassFile.FieldType.array Jvm.ClassFile.FieldType.int)) ∈ lw_tbl := lw_at lw_m1 164 rfl
theorem q229 : (Jvm.Cond.arrayClass Jvm.ClassFile.FieldType.int) ∈ lw_all := lw_g (lw_at lw_m1 174 rfl) rfl
theorem q230 : (Jvm.Cond.arrayClass Jvm.ClassFile.FieldType.boolean) ∈ lw_all := lw_g (lw_at lw_m1 175 rfl) rfl
theorem q1036 : (Jvm.Cond.arrayClass Jvm.ClassFile.FieldType.byte) ∈ lw_all := lw_g (lw_at lw_m5 21 rfl) rfl
theorem q1869 : (Jvm.Cond.arrayClass Jvm.ClassFile.FieldType.long) ∈ lw_all := lw_g (lw_at lw_m8 134 rfl) rfl
theorem q1870 : (Jvm.Cond.arrayClass Jvm.ClassFile.FieldType.double) ∈ lw_all := lw_g (lw_at lw_m8 135 rfl) rfl

