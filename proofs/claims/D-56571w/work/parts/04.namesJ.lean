/-! java/util/AbstractCollection -/
set_option maxRecDepth 100000
def RJ0 : String := "java/util/AbstractCollection"
abbrev cJ0_init : ByteArray := prog_30_method_1_code
def yJ0_init : MethodName := ⟨RJ0, "<init>", "()V"⟩
theorem dJ0_init_0 : decode cJ0_init 0 = .ok (.aload_n 0, 1) := by decide +kernel
theorem dJ0_init_1 : decode cJ0_init 1 = .ok (.invokespecial 1, 3) := by decide +kernel
theorem dJ0_init_4 : decode cJ0_init 4 = .ok (.return_, 1) := by decide +kernel
abbrev cJ0_isEmpty : ByteArray := prog_30_method_4_code
def yJ0_isEmpty : MethodName := ⟨RJ0, "isEmpty", "()Z"⟩
def dkwJ0_isEmpty_0 : List UInt8 := [42, 182, 0, 7, 154, 0, 7, 4, 167, 0, 4, 3, 172]
abbrev dktJ0_isEmpty_0 : List UInt8 := dkwJ0_isEmpty_0 ++ []
theorem dksJ0_isEmpty_0 : cJ0_isEmpty.data.toList.drop 0 = dktJ0_isEmpty_0 := by decide +kernel
theorem dJ0_isEmpty_0 : decode cJ0_isEmpty 0 = .ok (.aload_n 0, 1) := dk_42 (dk_at dksJ0_isEmpty_0 0 rfl rfl)
theorem dJ0_isEmpty_1 : decode cJ0_isEmpty 1 = .ok (.invokevirtual 7, 3) := dk_182 0 7 (dk_at dksJ0_isEmpty_0 1 rfl rfl)
theorem dJ0_isEmpty_4 : decode cJ0_isEmpty 4 = .ok (.ifCond .ne 7, 3) := dk_154 0 7 (dk_at dksJ0_isEmpty_0 4 rfl rfl)
theorem dJ0_isEmpty_7 : decode cJ0_isEmpty 7 = .ok (.iconst 1, 1) := dk_4 (dk_at dksJ0_isEmpty_0 7 rfl rfl)
theorem dJ0_isEmpty_8 : decode cJ0_isEmpty 8 = .ok (.goto 4, 3) := dk_167 0 4 (dk_at dksJ0_isEmpty_0 8 rfl rfl)
theorem dJ0_isEmpty_11 : decode cJ0_isEmpty 11 = .ok (.iconst 0, 1) := dk_3 (dk_at dksJ0_isEmpty_0 11 rfl rfl)
theorem dJ0_isEmpty_12 : decode cJ0_isEmpty 12 = .ok (.ireturn, 1) := dk_172 (dk_at dksJ0_isEmpty_0 12 rfl rfl)
theorem q60 : (Jvm.Cond.initialized "java/util/AbstractCollection") ∈ lw_all := lw_g (lw_at lw_m1 3 rfl) rfl
theorem q132 : (Jvm.Cond.instanceMethod ({ cls := "java/util/AbstractCollection", name := "<init>", desc := "()V" } : Jvm.MethodName)) ∈ lw_all := lw_g (lw_at lw_m1 75 rfl) rfl
theorem q133 : (Jvm.Cond.code ({ cls := "java/util/AbstractCollection", name := "<init>", desc := "()V" } : Jvm.MethodName) prog_30_method_1_code (1 : Nat) (Option.none : Option Jvm.ClassFile.FieldType)) ∈ lw_all := lw_g (lw_at lw_m1 76 rfl) rfl
theorem q134 : (Jvm.Cond.methodLink "java/util/AbstractCollection" (1 : Nat) ({ cls := "java/lang/Object", name := "<init>", desc := "()V" } : Jvm.MethodName)) ∈ lw_all := lw_g (lw_at lw_m1 77 rfl) rfl
theorem q941 : (Jvm.Cond.declares ({ cls := "java/util/AbstractCollection", name := "isEmpty", desc := "()Z" } : Jvm.MethodName)) ∈ lw_tbl := lw_at lw_m4 164 rfl
theorem q943 : (Jvm.Cond.instanceMethod ({ cls := "java/util/AbstractCollection", name := "isEmpty", desc := "()Z" } : Jvm.MethodName)) ∈ lw_all := lw_g (lw_at lw_m4 166 rfl) rfl
theorem q944 : (Jvm.Cond.code ({ cls := "java/util/AbstractCollection", name := "isEmpty", desc := "()Z" } : Jvm.MethodName) prog_30_method_4_code (1 : Nat) (Option.some Jvm.ClassFile.FieldType.boolean)) ∈ lw_all := lw_g (lw_at lw_m4 167 rfl) rfl
theorem q945 : (Jvm.Cond.methodLink "java/util/AbstractCollection" (7 : Nat) ({ cls := "java/util/AbstractCollection", name := "size", desc := "()I" } : Jvm.MethodName)) ∈ lw_all := lw_g (lw_at lw_m4 168 rfl) rfl
theorem q946 : (Jvm.Cond.declares ({ cls := "java/util/AbstractCollection", name := "size", desc := "()I" } : Jvm.MethodName)) ∈ lw_tbl := lw_at lw_m4 169 rfl
theorem q947 : (Jvm.Cond.sameMethod "java/util/AbstractCollection" "java/util/AbstractCollection" "size" "()I") ∈ lw_all := lw_g (lw_at lw_m4 170 rfl) rfl
/-! java/util/AbstractList -/
set_option maxRecDepth 100000
def RJ1 : String := "java/util/AbstractList"
abbrev cJ1_init : ByteArray := prog_31_method_1_code
def yJ1_init : MethodName := ⟨RJ1, "<init>", "()V"⟩
def dkwJ1_init_0 : List UInt8 := [42, 183, 0, 1, 42, 3, 181, 0, 7, 177]
abbrev dktJ1_init_0 : List UInt8 := dkwJ1_init_0 ++ []
theorem dksJ1_init_0 : cJ1_init.data.toList.drop 0 = dktJ1_init_0 := by decide +kernel
theorem dJ1_init_0 : decode cJ1_init 0 = .ok (.aload_n 0, 1) := dk_42 (dk_at dksJ1_init_0 0 rfl rfl)
theorem dJ1_init_1 : decode cJ1_init 1 = .ok (.invokespecial 1, 3) := dk_183 0 1 (dk_at dksJ1_init_0 1 rfl rfl)
theorem dJ1_init_4 : decode cJ1_init 4 = .ok (.aload_n 0, 1) := dk_42 (dk_at dksJ1_init_0 4 rfl rfl)
theorem dJ1_init_5 : decode cJ1_init 5 = .ok (.iconst 0, 1) := dk_3 (dk_at dksJ1_init_0 5 rfl rfl)
theorem dJ1_init_6 : decode cJ1_init 6 = .ok (.putfield 7, 3) := dk_181 0 7 (dk_at dksJ1_init_0 6 rfl rfl)
theorem dJ1_init_9 : decode cJ1_init 9 = .ok (.return_, 1) := dk_177 (dk_at dksJ1_init_0 9 rfl rfl)
theorem q61 : (Jvm.Cond.initialized "java/util/AbstractList") ∈ lw_all := lw_g (lw_at lw_m1 4 rfl) rfl
theorem q129 : (Jvm.Cond.instanceMethod ({ cls := "java/util/AbstractList", name := "<init>", desc := "()V" } : Jvm.MethodName)) ∈ lw_all := lw_g (lw_at lw_m1 72 rfl) rfl
theorem q130 : (Jvm.Cond.code ({ cls := "java/util/AbstractList", name := "<init>", desc := "()V" } : Jvm.MethodName) prog_31_method_1_code (1 : Nat) (Option.none : Option Jvm.ClassFile.FieldType)) ∈ lw_all := lw_g (lw_at lw_m1 73 rfl) rfl
theorem q131 : (Jvm.Cond.methodLink "java/util/AbstractList" (1 : Nat) ({ cls := "java/util/AbstractCollection", name := "<init>", desc := "()V" } : Jvm.MethodName)) ∈ lw_all := lw_g (lw_at lw_m1 74 rfl) rfl
theorem q141 : (Jvm.Cond.fieldLink "java/util/AbstractList" (7 : Nat) "java/util/AbstractList" "modCount" "I") ∈ lw_all := lw_g (lw_at lw_m1 84 rfl) rfl
theorem q150 : (Jvm.Cond.soleField "java/util/AbstractList" "modCount") ∈ lw_all := lw_g (lw_at lw_m1 93 rfl) rfl
/-! java/util/ArrayList -/
set_option maxRecDepth 100000
def RJ2 : String := "java/util/ArrayList"
def TJ2 : u_T := fun k => match k with
  | 0 => ("java/util/AbstractList", "modCount", "I", false)
  | 1 => ("java/util/ArrayList", "elementData", "[Ljava/lang/Object;", false)
  | _ => ("java/util/ArrayList", "size", "I", false)
def tyJ2 : Nat → FieldType := fun k => match k with
  | 0 => .int
  | 1 => .array (.object "java/lang/Object")
  | _ => .int
abbrev wsJ20 : List Cond := u_ws RJ2 TJ2 3
theorem nmJ2 : ∀ a, a < 3 → ∀ b, b < 3 → a ≠ b → (TJ2 a).2.1 ≠ (TJ2 b).2.1 := by decide +kernel
theorem tyJ2_ok : ∀ k, k < 3 → parseFieldDescriptor (TJ2 k).2.2.1 = some (tyJ2 k) := by decide +kernel
abbrev cJ2_init : ByteArray := prog_36_method_2_code
def yJ2_init : MethodName := ⟨RJ2, "<init>", "()V"⟩
def dkwJ2_init_0 : List UInt8 := [42, 183, 0, 1, 42, 178, 0, 39, 181, 0, 9, 177]
abbrev dktJ2_init_0 : List UInt8 := dkwJ2_init_0 ++ []
theorem dksJ2_init_0 : cJ2_init.data.toList.drop 0 = dktJ2_init_0 := by decide +kernel
theorem dJ2_init_0 : decode cJ2_init 0 = .ok (.aload_n 0, 1) := dk_42 (dk_at dksJ2_init_0 0 rfl rfl)
theorem dJ2_init_1 : decode cJ2_init 1 = .ok (.invokespecial 1, 3) := dk_183 0 1 (dk_at dksJ2_init_0 1 rfl rfl)
theorem dJ2_init_4 : decode cJ2_init 4 = .ok (.aload_n 0, 1) := dk_42 (dk_at dksJ2_init_0 4 rfl rfl)
theorem dJ2_init_5 : decode cJ2_init 5 = .ok (.getstatic 39, 3) := dk_178 0 39 (dk_at dksJ2_init_0 5 rfl rfl)
theorem dJ2_init_8 : decode cJ2_init 8 = .ok (.putfield 9, 3) := dk_181 0 9 (dk_at dksJ2_init_0 8 rfl rfl)
theorem dJ2_init_11 : decode cJ2_init 11 = .ok (.return_, 1) := dk_177 (dk_at dksJ2_init_0 11 rfl rfl)
abbrev cJ2_iterator : ByteArray := prog_36_method_55_code
def yJ2_iterator : MethodName := ⟨RJ2, "iterator", "()Ljava/util/Iterator;"⟩
def dkwJ2_iterator_0 : List UInt8 := [187, 1, 11, 89, 42, 183, 1, 13, 176]
abbrev dktJ2_iterator_0 : List UInt8 := dkwJ2_iterator_0 ++ []
theorem dksJ2_iterator_0 : cJ2_iterator.data.toList.drop 0 = dktJ2_iterator_0 := by decide +kernel
theorem dJ2_iterator_0 : decode cJ2_iterator 0 = .ok (.new 267, 3) := dk_187 1 11 (dk_at dksJ2_iterator_0 0 rfl rfl)
theorem dJ2_iterator_3 : decode cJ2_iterator 3 = .ok (.dup, 1) := dk_89 (dk_at dksJ2_iterator_0 3 rfl rfl)
theorem dJ2_iterator_4 : decode cJ2_iterator 4 = .ok (.aload_n 0, 1) := dk_42 (dk_at dksJ2_iterator_0 4 rfl rfl)
theorem dJ2_iterator_5 : decode cJ2_iterator 5 = .ok (.invokespecial 269, 3) := dk_183 1 13 (dk_at dksJ2_iterator_0 5 rfl rfl)
theorem dJ2_iterator_8 : decode cJ2_iterator 8 = .ok (.areturn, 1) := dk_176 (dk_at dksJ2_iterator_0 8 rfl rfl)
abbrev cJ2_size : ByteArray := prog_36_method_8_code
def yJ2_size : MethodName := ⟨RJ2, "size", "()I"⟩
theorem dJ2_size_0 : decode cJ2_size 0 = .ok (.aload_n 0, 1) := by decide +kernel
theorem dJ2_size_1 : decode cJ2_size 1 = .ok (.getfield 48, 3) := by decide +kernel
theorem dJ2_size_4 : decode cJ2_size 4 = .ok (.ireturn, 1) := by decide +kernel
abbrev cJ2_add : ByteArray := prog_36_method_25_code
def yJ2_add : MethodName := ⟨RJ2, "add", "(Ljava/lang/Object;)Z"⟩
def dkwJ2_add_1 : List UInt8 := [172]
abbrev dktJ2_add_1 : List UInt8 := dkwJ2_add_1 ++ []
def dkwJ2_add_0 : List UInt8 := [42, 89, 180, 0, 63, 4, 96, 181, 0, 63, 42, 43, 42, 180, 0, 9, 42, 180, 0, 48, 182, 0, 131, 4]
abbrev dktJ2_add_0 : List UInt8 := dkwJ2_add_0 ++ dktJ2_add_1
theorem dksJ2_add_0 : cJ2_add.data.toList.drop 0 = dktJ2_add_0 := by decide +kernel
theorem dksJ2_add_1 : cJ2_add.data.toList.drop 24 = dktJ2_add_1 := dk_seg dksJ2_add_0 24 rfl rfl
theorem dJ2_add_0 : decode cJ2_add 0 = .ok (.aload_n 0, 1) := dk_42 (dk_at dksJ2_add_0 0 rfl rfl)
theorem dJ2_add_1 : decode cJ2_add 1 = .ok (.dup, 1) := dk_89 (dk_at dksJ2_add_0 1 rfl rfl)
theorem dJ2_add_2 : decode cJ2_add 2 = .ok (.getfield 63, 3) := dk_180 0 63 (dk_at dksJ2_add_0 2 rfl rfl)
theorem dJ2_add_5 : decode cJ2_add 5 = .ok (.iconst 1, 1) := dk_4 (dk_at dksJ2_add_0 5 rfl rfl)
theorem dJ2_add_6 : decode cJ2_add 6 = .ok (.iadd, 1) := dk_96 (dk_at dksJ2_add_0 6 rfl rfl)
theorem dJ2_add_7 : decode cJ2_add 7 = .ok (.putfield 63, 3) := dk_181 0 63 (dk_at dksJ2_add_0 7 rfl rfl)
theorem dJ2_add_10 : decode cJ2_add 10 = .ok (.aload_n 0, 1) := dk_42 (dk_at dksJ2_add_0 10 rfl rfl)
theorem dJ2_add_11 : decode cJ2_add 11 = .ok (.aload_n 1, 1) := dk_43 (dk_at dksJ2_add_0 11 rfl rfl)
theorem dJ2_add_12 : decode cJ2_add 12 = .ok (.aload_n 0, 1) := dk_42 (dk_at dksJ2_add_0 12 rfl rfl)
theorem dJ2_add_13 : decode cJ2_add 13 = .ok (.getfield 9, 3) := dk_180 0 9 (dk_at dksJ2_add_0 13 rfl rfl)
theorem dJ2_add_16 : decode cJ2_add 16 = .ok (.aload_n 0, 1) := dk_42 (dk_at dksJ2_add_0 16 rfl rfl)
theorem dJ2_add_17 : decode cJ2_add 17 = .ok (.getfield 48, 3) := dk_180 0 48 (dk_at dksJ2_add_0 17 rfl rfl)
theorem dJ2_add_20 : decode cJ2_add 20 = .ok (.invokevirtual 131, 3) := dk_182 0 131 (dk_at dksJ2_add_0 20 rfl rfl)
theorem dJ2_add_23 : decode cJ2_add 23 = .ok (.iconst 1, 1) := dk_4 (dk_at dksJ2_add_0 23 rfl rfl)
theorem dJ2_add_24 : decode cJ2_add 24 = .ok (.ireturn, 1) := dk_172 (dk_at dksJ2_add_1 0 rfl rfl)
abbrev cJ2_add_2 : ByteArray := prog_36_method_24_code
def yJ2_add_2 : MethodName := ⟨RJ2, "add", "(Ljava/lang/Object;[Ljava/lang/Object;I)V"⟩
def dkwJ2_add_2_0 : List UInt8 := [29, 44, 190, 160, 0, 8, 42, 182, 0, 129, 77, 44, 29, 43, 83, 42, 29, 4, 96, 181, 0, 48, 177]
abbrev dktJ2_add_2_0 : List UInt8 := dkwJ2_add_2_0 ++ []
theorem dksJ2_add_2_0 : cJ2_add_2.data.toList.drop 0 = dktJ2_add_2_0 := by decide +kernel
theorem dJ2_add_2_0 : decode cJ2_add_2 0 = .ok (.iload_n 3, 1) := dk_29 (dk_at dksJ2_add_2_0 0 rfl rfl)
theorem dJ2_add_2_1 : decode cJ2_add_2 1 = .ok (.aload_n 2, 1) := dk_44 (dk_at dksJ2_add_2_0 1 rfl rfl)
theorem dJ2_add_2_2 : decode cJ2_add_2 2 = .ok (.arraylength, 1) := dk_190 (dk_at dksJ2_add_2_0 2 rfl rfl)
theorem dJ2_add_2_3 : decode cJ2_add_2 3 = .ok (.if_icmp .ne 8, 3) := dk_160 0 8 (dk_at dksJ2_add_2_0 3 rfl rfl)
theorem dJ2_add_2_6 : decode cJ2_add_2 6 = .ok (.aload_n 0, 1) := dk_42 (dk_at dksJ2_add_2_0 6 rfl rfl)
theorem dJ2_add_2_7 : decode cJ2_add_2 7 = .ok (.invokevirtual 129, 3) := dk_182 0 129 (dk_at dksJ2_add_2_0 7 rfl rfl)
theorem dJ2_add_2_10 : decode cJ2_add_2 10 = .ok (.astore_n 2, 1) := dk_77 (dk_at dksJ2_add_2_0 10 rfl rfl)
theorem dJ2_add_2_11 : decode cJ2_add_2 11 = .ok (.aload_n 2, 1) := dk_44 (dk_at dksJ2_add_2_0 11 rfl rfl)
theorem dJ2_add_2_12 : decode cJ2_add_2 12 = .ok (.iload_n 3, 1) := dk_29 (dk_at dksJ2_add_2_0 12 rfl rfl)
theorem dJ2_add_2_13 : decode cJ2_add_2 13 = .ok (.aload_n 1, 1) := dk_43 (dk_at dksJ2_add_2_0 13 rfl rfl)
theorem dJ2_add_2_14 : decode cJ2_add_2 14 = .ok (.aastore, 1) := dk_83 (dk_at dksJ2_add_2_0 14 rfl rfl)
theorem dJ2_add_2_15 : decode cJ2_add_2 15 = .ok (.aload_n 0, 1) := dk_42 (dk_at dksJ2_add_2_0 15 rfl rfl)
theorem dJ2_add_2_16 : decode cJ2_add_2 16 = .ok (.iload_n 3, 1) := dk_29 (dk_at dksJ2_add_2_0 16 rfl rfl)
theorem dJ2_add_2_17 : decode cJ2_add_2 17 = .ok (.iconst 1, 1) := dk_4 (dk_at dksJ2_add_2_0 17 rfl rfl)
theorem dJ2_add_2_18 : decode cJ2_add_2 18 = .ok (.iadd, 1) := dk_96 (dk_at dksJ2_add_2_0 18 rfl rfl)
theorem dJ2_add_2_19 : decode cJ2_add_2 19 = .ok (.putfield 48, 3) := dk_181 0 48 (dk_at dksJ2_add_2_0 19 rfl rfl)
theorem dJ2_add_2_22 : decode cJ2_add_2 22 = .ok (.return_, 1) := dk_177 (dk_at dksJ2_add_2_0 22 rfl rfl)
abbrev cJ2_grow : ByteArray := prog_36_method_7_code
def yJ2_grow : MethodName := ⟨RJ2, "grow", "()[Ljava/lang/Object;"⟩
def dkwJ2_grow_0 : List UInt8 := [42, 42, 180, 0, 48, 4, 96, 182, 0, 69, 176]
abbrev dktJ2_grow_0 : List UInt8 := dkwJ2_grow_0 ++ []
theorem dksJ2_grow_0 : cJ2_grow.data.toList.drop 0 = dktJ2_grow_0 := by decide +kernel
theorem dJ2_grow_0 : decode cJ2_grow 0 = .ok (.aload_n 0, 1) := dk_42 (dk_at dksJ2_grow_0 0 rfl rfl)
theorem dJ2_grow_1 : decode cJ2_grow 1 = .ok (.aload_n 0, 1) := dk_42 (dk_at dksJ2_grow_0 1 rfl rfl)
theorem dJ2_grow_2 : decode cJ2_grow 2 = .ok (.getfield 48, 3) := dk_180 0 48 (dk_at dksJ2_grow_0 2 rfl rfl)
theorem dJ2_grow_5 : decode cJ2_grow 5 = .ok (.iconst 1, 1) := dk_4 (dk_at dksJ2_grow_0 5 rfl rfl)
theorem dJ2_grow_6 : decode cJ2_grow 6 = .ok (.iadd, 1) := dk_96 (dk_at dksJ2_grow_0 6 rfl rfl)
theorem dJ2_grow_7 : decode cJ2_grow 7 = .ok (.invokevirtual 69, 3) := dk_182 0 69 (dk_at dksJ2_grow_0 7 rfl rfl)
theorem dJ2_grow_10 : decode cJ2_grow 10 = .ok (.areturn, 1) := dk_176 (dk_at dksJ2_grow_0 10 rfl rfl)
abbrev cJ2_grow_2 : ByteArray := prog_36_method_6_code
def yJ2_grow_2 : MethodName := ⟨RJ2, "grow", "(I)[Ljava/lang/Object;"⟩
def dkwJ2_grow_2_2 : List UInt8 := [27, 184, 0, 79, 189, 0, 7, 90, 181, 0, 9, 176]
abbrev dktJ2_grow_2_2 : List UInt8 := dkwJ2_grow_2_2 ++ []
def dkwJ2_grow_2_1 : List UInt8 := [28, 4, 122, 184, 0, 73, 62, 42, 42, 180, 0, 9, 29, 184, 0, 66, 90, 181, 0, 9, 176, 42, 16, 10]
abbrev dktJ2_grow_2_1 : List UInt8 := dkwJ2_grow_2_1 ++ dktJ2_grow_2_2
def dkwJ2_grow_2_0 : List UInt8 := [42, 180, 0, 9, 190, 61, 28, 157, 0, 13, 42, 180, 0, 9, 178, 0, 39, 165, 0, 28, 28, 27, 28, 100]
abbrev dktJ2_grow_2_0 : List UInt8 := dkwJ2_grow_2_0 ++ dktJ2_grow_2_1
theorem dksJ2_grow_2_0 : cJ2_grow_2.data.toList.drop 0 = dktJ2_grow_2_0 := by decide +kernel
theorem dksJ2_grow_2_1 : cJ2_grow_2.data.toList.drop 24 = dktJ2_grow_2_1 := dk_seg dksJ2_grow_2_0 24 rfl rfl
theorem dksJ2_grow_2_2 : cJ2_grow_2.data.toList.drop 48 = dktJ2_grow_2_2 := dk_seg dksJ2_grow_2_1 24 rfl rfl
theorem dJ2_grow_2_0 : decode cJ2_grow_2 0 = .ok (.aload_n 0, 1) := dk_42 (dk_at dksJ2_grow_2_0 0 rfl rfl)
theorem dJ2_grow_2_1 : decode cJ2_grow_2 1 = .ok (.getfield 9, 3) := dk_180 0 9 (dk_at dksJ2_grow_2_0 1 rfl rfl)
theorem dJ2_grow_2_4 : decode cJ2_grow_2 4 = .ok (.arraylength, 1) := dk_190 (dk_at dksJ2_grow_2_0 4 rfl rfl)
theorem dJ2_grow_2_5 : decode cJ2_grow_2 5 = .ok (.istore_n 2, 1) := dk_61 (dk_at dksJ2_grow_2_0 5 rfl rfl)
theorem dJ2_grow_2_6 : decode cJ2_grow_2 6 = .ok (.iload_n 2, 1) := dk_28 (dk_at dksJ2_grow_2_0 6 rfl rfl)
theorem dJ2_grow_2_7 : decode cJ2_grow_2 7 = .ok (.ifCond .gt 13, 3) := dk_157 0 13 (dk_at dksJ2_grow_2_0 7 rfl rfl)
theorem dJ2_grow_2_10 : decode cJ2_grow_2 10 = .ok (.aload_n 0, 1) := dk_42 (dk_at dksJ2_grow_2_0 10 rfl rfl)
theorem dJ2_grow_2_11 : decode cJ2_grow_2 11 = .ok (.getfield 9, 3) := dk_180 0 9 (dk_at dksJ2_grow_2_0 11 rfl rfl)
theorem dJ2_grow_2_14 : decode cJ2_grow_2 14 = .ok (.getstatic 39, 3) := dk_178 0 39 (dk_at dksJ2_grow_2_0 14 rfl rfl)
theorem dJ2_grow_2_17 : decode cJ2_grow_2 17 = .ok (.if_acmp .eq 28, 3) := dk_165 0 28 (dk_at dksJ2_grow_2_0 17 rfl rfl)
theorem dJ2_grow_2_20 : decode cJ2_grow_2 20 = .ok (.iload_n 2, 1) := dk_28 (dk_at dksJ2_grow_2_0 20 rfl rfl)
theorem dJ2_grow_2_21 : decode cJ2_grow_2 21 = .ok (.iload_n 1, 1) := dk_27 (dk_at dksJ2_grow_2_0 21 rfl rfl)
theorem dJ2_grow_2_22 : decode cJ2_grow_2 22 = .ok (.iload_n 2, 1) := dk_28 (dk_at dksJ2_grow_2_0 22 rfl rfl)
theorem dJ2_grow_2_23 : decode cJ2_grow_2 23 = .ok (.isub, 1) := dk_100 (dk_at dksJ2_grow_2_0 23 rfl rfl)
theorem dJ2_grow_2_24 : decode cJ2_grow_2 24 = .ok (.iload_n 2, 1) := dk_28 (dk_at dksJ2_grow_2_1 0 rfl rfl)
theorem dJ2_grow_2_25 : decode cJ2_grow_2 25 = .ok (.iconst 1, 1) := dk_4 (dk_at dksJ2_grow_2_1 1 rfl rfl)
theorem dJ2_grow_2_26 : decode cJ2_grow_2 26 = .ok (.ishr, 1) := dk_122 (dk_at dksJ2_grow_2_1 2 rfl rfl)
theorem dJ2_grow_2_27 : decode cJ2_grow_2 27 = .ok (.invokestatic 73, 3) := dk_184 0 73 (dk_at dksJ2_grow_2_1 3 rfl rfl)
theorem dJ2_grow_2_30 : decode cJ2_grow_2 30 = .ok (.istore_n 3, 1) := dk_62 (dk_at dksJ2_grow_2_1 6 rfl rfl)
theorem dJ2_grow_2_31 : decode cJ2_grow_2 31 = .ok (.aload_n 0, 1) := dk_42 (dk_at dksJ2_grow_2_1 7 rfl rfl)
theorem dJ2_grow_2_32 : decode cJ2_grow_2 32 = .ok (.aload_n 0, 1) := dk_42 (dk_at dksJ2_grow_2_1 8 rfl rfl)
theorem dJ2_grow_2_33 : decode cJ2_grow_2 33 = .ok (.getfield 9, 3) := dk_180 0 9 (dk_at dksJ2_grow_2_1 9 rfl rfl)
theorem dJ2_grow_2_36 : decode cJ2_grow_2 36 = .ok (.iload_n 3, 1) := dk_29 (dk_at dksJ2_grow_2_1 12 rfl rfl)
theorem dJ2_grow_2_37 : decode cJ2_grow_2 37 = .ok (.invokestatic 66, 3) := dk_184 0 66 (dk_at dksJ2_grow_2_1 13 rfl rfl)
theorem dJ2_grow_2_40 : decode cJ2_grow_2 40 = .ok (.dup_x1, 1) := dk_90 (dk_at dksJ2_grow_2_1 16 rfl rfl)
theorem dJ2_grow_2_41 : decode cJ2_grow_2 41 = .ok (.putfield 9, 3) := dk_181 0 9 (dk_at dksJ2_grow_2_1 17 rfl rfl)
theorem dJ2_grow_2_44 : decode cJ2_grow_2 44 = .ok (.areturn, 1) := dk_176 (dk_at dksJ2_grow_2_1 20 rfl rfl)
theorem dJ2_grow_2_45 : decode cJ2_grow_2 45 = .ok (.aload_n 0, 1) := dk_42 (dk_at dksJ2_grow_2_1 21 rfl rfl)
theorem dJ2_grow_2_46 : decode cJ2_grow_2 46 = .ok (.bipush 10, 2) := dk_16 10 (dk_at dksJ2_grow_2_1 22 rfl rfl)
theorem dJ2_grow_2_48 : decode cJ2_grow_2 48 = .ok (.iload_n 1, 1) := dk_27 (dk_at dksJ2_grow_2_2 0 rfl rfl)
theorem dJ2_grow_2_49 : decode cJ2_grow_2 49 = .ok (.invokestatic 79, 3) := dk_184 0 79 (dk_at dksJ2_grow_2_2 1 rfl rfl)
theorem dJ2_grow_2_52 : decode cJ2_grow_2 52 = .ok (.anewarray 7, 3) := dk_189 0 7 (dk_at dksJ2_grow_2_2 4 rfl rfl)
theorem dJ2_grow_2_55 : decode cJ2_grow_2 55 = .ok (.dup_x1, 1) := dk_90 (dk_at dksJ2_grow_2_2 7 rfl rfl)
theorem dJ2_grow_2_56 : decode cJ2_grow_2 56 = .ok (.putfield 9, 3) := dk_181 0 9 (dk_at dksJ2_grow_2_2 8 rfl rfl)
theorem dJ2_grow_2_59 : decode cJ2_grow_2 59 = .ok (.areturn, 1) := dk_176 (dk_at dksJ2_grow_2_2 11 rfl rfl)
abbrev cJ2_get : ByteArray := prog_36_method_20_code
def yJ2_get : MethodName := ⟨RJ2, "get", "(I)Ljava/lang/Object;"⟩
def dkwJ2_get_0 : List UInt8 := [27, 42, 180, 0, 48, 184, 0, 118, 87, 42, 27, 182, 0, 123, 176]
abbrev dktJ2_get_0 : List UInt8 := dkwJ2_get_0 ++ []
theorem dksJ2_get_0 : cJ2_get.data.toList.drop 0 = dktJ2_get_0 := by decide +kernel
theorem dJ2_get_0 : decode cJ2_get 0 = .ok (.iload_n 1, 1) := dk_27 (dk_at dksJ2_get_0 0 rfl rfl)
theorem dJ2_get_1 : decode cJ2_get 1 = .ok (.aload_n 0, 1) := dk_42 (dk_at dksJ2_get_0 1 rfl rfl)
theorem dJ2_get_2 : decode cJ2_get 2 = .ok (.getfield 48, 3) := dk_180 0 48 (dk_at dksJ2_get_0 2 rfl rfl)
theorem dJ2_get_5 : decode cJ2_get 5 = .ok (.invokestatic 118, 3) := dk_184 0 118 (dk_at dksJ2_get_0 5 rfl rfl)
theorem dJ2_get_8 : decode cJ2_get 8 = .ok (.pop, 1) := dk_87 (dk_at dksJ2_get_0 8 rfl rfl)
theorem dJ2_get_9 : decode cJ2_get 9 = .ok (.aload_n 0, 1) := dk_42 (dk_at dksJ2_get_0 9 rfl rfl)
theorem dJ2_get_10 : decode cJ2_get 10 = .ok (.iload_n 1, 1) := dk_27 (dk_at dksJ2_get_0 10 rfl rfl)
theorem dJ2_get_11 : decode cJ2_get 11 = .ok (.invokevirtual 123, 3) := dk_182 0 123 (dk_at dksJ2_get_0 11 rfl rfl)
theorem dJ2_get_14 : decode cJ2_get 14 = .ok (.areturn, 1) := dk_176 (dk_at dksJ2_get_0 14 rfl rfl)
abbrev cJ2_elementData : ByteArray := prog_36_method_18_code
def yJ2_elementData : MethodName := ⟨RJ2, "elementData", "(I)Ljava/lang/Object;"⟩
def dkwJ2_elementData_0 : List UInt8 := [42, 180, 0, 9, 27, 50, 176]
abbrev dktJ2_elementData_0 : List UInt8 := dkwJ2_elementData_0 ++ []
theorem dksJ2_elementData_0 : cJ2_elementData.data.toList.drop 0 = dktJ2_elementData_0 := by decide +kernel
theorem dJ2_elementData_0 : decode cJ2_elementData 0 = .ok (.aload_n 0, 1) := dk_42 (dk_at dksJ2_elementData_0 0 rfl rfl)
theorem dJ2_elementData_1 : decode cJ2_elementData 1 = .ok (.getfield 9, 3) := dk_180 0 9 (dk_at dksJ2_elementData_0 1 rfl rfl)
theorem dJ2_elementData_4 : decode cJ2_elementData 4 = .ok (.iload_n 1, 1) := dk_27 (dk_at dksJ2_elementData_0 4 rfl rfl)
theorem dJ2_elementData_5 : decode cJ2_elementData 5 = .ok (.aaload, 1) := dk_50 (dk_at dksJ2_elementData_0 5 rfl rfl)
theorem dJ2_elementData_6 : decode cJ2_elementData 6 = .ok (.areturn, 1) := dk_176 (dk_at dksJ2_elementData_0 6 rfl rfl)
theorem q62 : (Jvm.Cond.initialized "java/util/ArrayList") ∈ lw_all := lw_g (lw_at lw_m1 5 rfl) rfl
theorem q124 : (Jvm.Cond.instantiable "java/util/ArrayList" (3 : Nat)) ∈ lw_all := lw_g (lw_at lw_m1 67 rfl) rfl
theorem q126 : (Jvm.Cond.instanceMethod ({ cls := "java/util/ArrayList", name := "<init>", desc := "()V" } : Jvm.MethodName)) ∈ lw_all := lw_g (lw_at lw_m1 69 rfl) rfl
theorem q127 : (Jvm.Cond.code ({ cls := "java/util/ArrayList", name := "<init>", desc := "()V" } : Jvm.MethodName) prog_36_method_2_code (1 : Nat) (Option.none : Option Jvm.ClassFile.FieldType)) ∈ lw_all := lw_g (lw_at lw_m1 70 rfl) rfl
theorem q128 : (Jvm.Cond.methodLink "java/util/ArrayList" (1 : Nat) ({ cls := "java/util/AbstractList", name := "<init>", desc := "()V" } : Jvm.MethodName)) ∈ lw_all := lw_g (lw_at lw_m1 71 rfl) rfl
theorem q135 : (Jvm.Cond.fieldLink "java/util/ArrayList" (39 : Nat) "java/util/ArrayList" "DEFAULTCAPACITY_EMPTY_ELEMENTDATA" "[Ljava/lang/Object;") ∈ lw_all := lw_g (lw_at lw_m1 78 rfl) rfl
theorem q136 : (Jvm.Cond.laysStatic "java/util/ArrayList" "DEFAULTCAPACITY_EMPTY_ELEMENTDATA" "[Ljava/lang/Object;") ∈ lw_tbl := lw_at lw_m1 79 rfl
theorem q137 : (Jvm.Cond.fieldLink "java/util/ArrayList" (9 : Nat) "java/util/ArrayList" "elementData" "[Ljava/lang/Object;") ∈ lw_all := lw_g (lw_at lw_m1 80 rfl) rfl
theorem q140 : (Jvm.Cond.fieldLink "java/util/ArrayList" (48 : Nat) "java/util/ArrayList" "size" "I") ∈ lw_all := lw_g (lw_at lw_m1 83 rfl) rfl
theorem q143 : (Jvm.Cond.sameField "java/util/ArrayList" "java/util/AbstractList" "modCount" "I") ∈ lw_all := lw_g (lw_at lw_m1 86 rfl) rfl
theorem q144 : (Jvm.Cond.fieldLink "java/util/ArrayList" (63 : Nat) "java/util/ArrayList" "modCount" "I") ∈ lw_all := lw_g (lw_at lw_m1 87 rfl) rfl
theorem q145 : (Jvm.Cond.lays "java/util/ArrayList" "java/util/ArrayList" "elementData" "[Ljava/lang/Object;") ∈ lw_all := lw_g (lw_at lw_m1 88 rfl) rfl
theorem q146 : (Jvm.Cond.soleField "java/util/ArrayList" "elementData") ∈ lw_all := lw_g (lw_at lw_m1 89 rfl) rfl
theorem q147 : (Jvm.Cond.lays "java/util/ArrayList" "java/util/ArrayList" "size" "I") ∈ lw_all := lw_g (lw_at lw_m1 90 rfl) rfl
theorem q148 : (Jvm.Cond.soleField "java/util/ArrayList" "size") ∈ lw_all := lw_g (lw_at lw_m1 91 rfl) rfl
theorem q149 : (Jvm.Cond.lays "java/util/ArrayList" "java/util/AbstractList" "modCount" "I") ∈ lw_all := lw_g (lw_at lw_m1 92 rfl) rfl
theorem q151 : (Jvm.Cond.superclass "java/util/ArrayList" "java/util/AbstractList") ∈ lw_all := lw_g (lw_at lw_m1 94 rfl) rfl
theorem q559 : (Jvm.Cond.castable "java/util/ArrayList" "java/util/List") ∈ lw_tbl := lw_at lw_m3 22 rfl
theorem q560 : (Jvm.Cond.selects "java/util/ArrayList" ({ cls := "java/util/List", name := "iterator", desc := "()Ljava/util/Iterator;" } : Jvm.MethodName) ({ cls := "java/util/ArrayList", name := "iterator", desc := "()Ljava/util/Iterator;" } : Jvm.MethodName)) ∈ lw_all := lw_g (lw_at lw_m3 23 rfl) rfl
theorem q561 : (Jvm.Cond.unhidden "java/util/ArrayList" "iterator" "()Ljava/util/Iterator;") ∈ lw_tbl := lw_at lw_m3 24 rfl
theorem q562 : (Jvm.Cond.instanceMethod ({ cls := "java/util/ArrayList", name := "iterator", desc := "()Ljava/util/Iterator;" } : Jvm.MethodName)) ∈ lw_all := lw_g (lw_at lw_m3 25 rfl) rfl
theorem q563 : (Jvm.Cond.publicMethod ({ cls := "java/util/ArrayList", name := "iterator", desc := "()Ljava/util/Iterator;" } : Jvm.MethodName)) ∈ lw_tbl := lw_at lw_m3 26 rfl
theorem q564 : (Jvm.Cond.code ({ cls := "java/util/ArrayList", name := "iterator", desc := "()Ljava/util/Iterator;" } : Jvm.MethodName) prog_36_method_55_code (1 : Nat) (Option.some (Jvm.ClassFile.FieldType.object "java/util/Iterator"))) ∈ lw_all := lw_g (lw_at lw_m3 27 rfl) rfl
theorem q565 : (Jvm.Cond.classLink "java/util/ArrayList" (267 : Nat) "java/util/ArrayList$Itr") ∈ lw_all := lw_g (lw_at lw_m3 28 rfl) rfl
theorem q567 : (Jvm.Cond.methodLink "java/util/ArrayList" (269 : Nat) ({ cls := "java/util/ArrayList$Itr", name := "<init>", desc := "(Ljava/util/ArrayList;)V" } : Jvm.MethodName)) ∈ lw_all := lw_g (lw_at lw_m3 30 rfl) rfl
theorem q907 : (Jvm.Cond.selects "java/util/ArrayList" ({ cls := "java/lang/Object", name := "getClass", desc := "()Ljava/lang/Class;" } : Jvm.MethodName) ({ cls := "java/lang/Object", name := "getClass", desc := "()Ljava/lang/Class;" } : Jvm.MethodName)) ∈ lw_all := lw_g (lw_at lw_m4 130 rfl) rfl
theorem q948 : (Jvm.Cond.selects "java/util/ArrayList" ({ cls := "java/util/AbstractCollection", name := "size", desc := "()I" } : Jvm.MethodName) ({ cls := "java/util/ArrayList", name := "size", desc := "()I" } : Jvm.MethodName)) ∈ lw_all := lw_g (lw_at lw_m4 171 rfl) rfl
theorem q949 : (Jvm.Cond.instanceMethod ({ cls := "java/util/ArrayList", name := "size", desc := "()I" } : Jvm.MethodName)) ∈ lw_all := lw_g (lw_at lw_m4 172 rfl) rfl
theorem q950 : (Jvm.Cond.code ({ cls := "java/util/ArrayList", name := "size", desc := "()I" } : Jvm.MethodName) prog_36_method_8_code (1 : Nat) (Option.some Jvm.ClassFile.FieldType.int)) ∈ lw_all := lw_g (lw_at lw_m4 173 rfl) rfl
theorem q1163 : (Jvm.Cond.selects "java/util/ArrayList" ({ cls := "java/util/List", name := "size", desc := "()I" } : Jvm.MethodName) ({ cls := "java/util/ArrayList", name := "size", desc := "()I" } : Jvm.MethodName)) ∈ lw_all := lw_g (lw_at lw_m5 146 rfl) rfl
theorem q1164 : (Jvm.Cond.unhidden "java/util/ArrayList" "size" "()I") ∈ lw_tbl := lw_at lw_m5 147 rfl
theorem q1165 : (Jvm.Cond.publicMethod ({ cls := "java/util/ArrayList", name := "size", desc := "()I" } : Jvm.MethodName)) ∈ lw_tbl := lw_at lw_m5 148 rfl
theorem q1192 : (Jvm.Cond.selects "java/util/ArrayList" ({ cls := "java/util/List", name := "add", desc := "(Ljava/lang/Object;)Z" } : Jvm.MethodName) ({ cls := "java/util/ArrayList", name := "add", desc := "(Ljava/lang/Object;)Z" } : Jvm.MethodName)) ∈ lw_all := lw_g (lw_at lw_m5 175 rfl) rfl
theorem q1193 : (Jvm.Cond.unhidden "java/util/ArrayList" "add" "(Ljava/lang/Object;)Z") ∈ lw_tbl := lw_at lw_m5 176 rfl
theorem q1194 : (Jvm.Cond.instanceMethod ({ cls := "java/util/ArrayList", name := "add", desc := "(Ljava/lang/Object;)Z" } : Jvm.MethodName)) ∈ lw_all := lw_g (lw_at lw_m5 177 rfl) rfl
theorem q1195 : (Jvm.Cond.publicMethod ({ cls := "java/util/ArrayList", name := "add", desc := "(Ljava/lang/Object;)Z" } : Jvm.MethodName)) ∈ lw_tbl := lw_at lw_m5 178 rfl
theorem q1196 : (Jvm.Cond.code ({ cls := "java/util/ArrayList", name := "add", desc := "(Ljava/lang/Object;)Z" } : Jvm.MethodName) prog_36_method_25_code (2 : Nat) (Option.some Jvm.ClassFile.FieldType.boolean)) ∈ lw_all := lw_g (lw_at lw_m5 179 rfl) rfl
theorem q1197 : (Jvm.Cond.methodLink "java/util/ArrayList" (131 : Nat) ({ cls := "java/util/ArrayList", name := "add", desc := "(Ljava/lang/Object;[Ljava/lang/Object;I)V" } : Jvm.MethodName)) ∈ lw_all := lw_g (lw_at lw_m5 180 rfl) rfl
theorem q1198 : (Jvm.Cond.privateMethod ({ cls := "java/util/ArrayList", name := "add", desc := "(Ljava/lang/Object;[Ljava/lang/Object;I)V" } : Jvm.MethodName)) ∈ lw_tbl := lw_at lw_m5 181 rfl
theorem q1199 : (Jvm.Cond.instanceMethod ({ cls := "java/util/ArrayList", name := "add", desc := "(Ljava/lang/Object;[Ljava/lang/Object;I)V" } : Jvm.MethodName)) ∈ lw_all := lw_g (lw_at lw_m5 182 rfl) rfl
theorem q1200 : (Jvm.Cond.code ({ cls := "java/util/ArrayList", name := "add", desc := "(Ljava/lang/Object;[Ljava/lang/Object;I)V" } : Jvm.MethodName) prog_36_method_24_code (4 : Nat) (Option.none : Option Jvm.ClassFile.FieldType)) ∈ lw_all := lw_g (lw_at lw_m5 183 rfl) rfl
theorem q1201 : (Jvm.Cond.methodLink "java/util/ArrayList" (129 : Nat) ({ cls := "java/util/ArrayList", name := "grow", desc := "()[Ljava/lang/Object;" } : Jvm.MethodName)) ∈ lw_all := lw_g (lw_at lw_m5 184 rfl) rfl
theorem q1202 : (Jvm.Cond.privateMethod ({ cls := "java/util/ArrayList", name := "grow", desc := "()[Ljava/lang/Object;" } : Jvm.MethodName)) ∈ lw_tbl := lw_at lw_m5 185 rfl
theorem q1203 : (Jvm.Cond.instanceMethod ({ cls := "java/util/ArrayList", name := "grow", desc := "()[Ljava/lang/Object;" } : Jvm.MethodName)) ∈ lw_all := lw_g (lw_at lw_m5 186 rfl) rfl
theorem q1204 : (Jvm.Cond.code ({ cls := "java/util/ArrayList", name := "grow", desc := "()[Ljava/lang/Object;" } : Jvm.MethodName) prog_36_method_7_code (1 : Nat) (Option.some (Jvm.ClassFile.FieldType.array (Jvm.ClassFile.FieldType.object "java/lang/Object")))) ∈ lw_all := lw_g (lw_at lw_m5 187 rfl) rfl
theorem q1205 : (Jvm.Cond.methodLink "java/util/ArrayList" (69 : Nat) ({ cls := "java/util/ArrayList", name := "grow", desc := "(I)[Ljava/lang/Object;" } : Jvm.MethodName)) ∈ lw_all := lw_g (lw_at lw_m5 188 rfl) rfl
theorem q1206 : (Jvm.Cond.privateMethod ({ cls := "java/util/ArrayList", name := "grow", desc := "(I)[Ljava/lang/Object;" } : Jvm.MethodName)) ∈ lw_tbl := lw_at lw_m5 189 rfl
theorem q1207 : (Jvm.Cond.instanceMethod ({ cls := "java/util/ArrayList", name := "grow", desc := "(I)[Ljava/lang/Object;" } : Jvm.MethodName)) ∈ lw_all := lw_g (lw_at lw_m5 190 rfl) rfl
theorem q1208 : (Jvm.Cond.code ({ cls := "java/util/ArrayList", name := "grow", desc := "(I)[Ljava/lang/Object;" } : Jvm.MethodName) prog_36_method_6_code (4 : Nat) (Option.some (Jvm.ClassFile.FieldType.array (Jvm.ClassFile.FieldType.object "java/lang/Object")))) ∈ lw_all := lw_g (lw_at lw_m5 191 rfl) rfl
theorem q1209 : (Jvm.Cond.methodLink "java/util/ArrayList" (73 : Nat) ({ cls := "jdk/internal/util/ArraysSupport", name := "newLength", desc := "(III)I" } : Jvm.MethodName)) ∈ lw_all := lw_g (lw_at lw_m5 192 rfl) rfl
theorem q1210 : (Jvm.Cond.methodLink "java/util/ArrayList" (66 : Nat) ({ cls := "java/util/Arrays", name := "copyOf", desc := "([Ljava/lang/Object;I)[Ljava/lang/Object;" } : Jvm.MethodName)) ∈ lw_all := lw_g (lw_at lw_m5 193 rfl) rfl
theorem q1211 : (Jvm.Cond.methodLink "java/util/ArrayList" (79 : Nat) ({ cls := "java/lang/Math", name := "max", desc := "(II)I" } : Jvm.MethodName)) ∈ lw_all := lw_g (lw_at lw_m5 194 rfl) rfl
theorem q1212 : (Jvm.Cond.classLink "java/util/ArrayList" (7 : Nat) "java/lang/Object") ∈ lw_all := lw_g (lw_at lw_m5 195 rfl) rfl
theorem q1229 : (Jvm.Cond.selects "java/util/ArrayList" ({ cls := "java/util/List", name := "get", desc := "(I)Ljava/lang/Object;" } : Jvm.MethodName) ({ cls := "java/util/ArrayList", name := "get", desc := "(I)Ljava/lang/Object;" } : Jvm.MethodName)) ∈ lw_all := lw_g (lw_at lw_m5 212 rfl) rfl
theorem q1230 : (Jvm.Cond.unhidden "java/util/ArrayList" "get" "(I)Ljava/lang/Object;") ∈ lw_tbl := lw_at lw_m5 213 rfl
theorem q1231 : (Jvm.Cond.instanceMethod ({ cls := "java/util/ArrayList", name := "get", desc := "(I)Ljava/lang/Object;" } : Jvm.MethodName)) ∈ lw_all := lw_g (lw_at lw_m5 214 rfl) rfl
theorem q1232 : (Jvm.Cond.publicMethod ({ cls := "java/util/ArrayList", name := "get", desc := "(I)Ljava/lang/Object;" } : Jvm.MethodName)) ∈ lw_tbl := lw_at lw_m5 215 rfl
theorem q1233 : (Jvm.Cond.code ({ cls := "java/util/ArrayList", name := "get", desc := "(I)Ljava/lang/Object;" } : Jvm.MethodName) prog_36_method_20_code (2 : Nat) (Option.some (Jvm.ClassFile.FieldType.object "java/lang/Object"))) ∈ lw_all := lw_g (lw_at lw_m5 216 rfl) rfl
theorem q1234 : (Jvm.Cond.methodLink "java/util/ArrayList" (118 : Nat) ({ cls := "java/util/Objects", name := "checkIndex", desc := "(II)I" } : Jvm.MethodName)) ∈ lw_all := lw_g (lw_at lw_m5 217 rfl) rfl
theorem q1240 : (Jvm.Cond.methodLink "java/util/ArrayList" (123 : Nat) ({ cls := "java/util/ArrayList", name := "elementData", desc := "(I)Ljava/lang/Object;" } : Jvm.MethodName)) ∈ lw_all := lw_g (lw_at lw_m5 223 rfl) rfl
theorem q1241 : (Jvm.Cond.instanceMethod ({ cls := "java/util/ArrayList", name := "elementData", desc := "(I)Ljava/lang/Object;" } : Jvm.MethodName)) ∈ lw_all := lw_g (lw_at lw_m5 224 rfl) rfl
theorem q1242 : (Jvm.Cond.selects "java/util/ArrayList" ({ cls := "java/util/ArrayList", name := "elementData", desc := "(I)Ljava/lang/Object;" } : Jvm.MethodName) ({ cls := "java/util/ArrayList", name := "elementData", desc := "(I)Ljava/lang/Object;" } : Jvm.MethodName)) ∈ lw_all := lw_g (lw_at lw_m5 225 rfl) rfl
theorem q1243 : (Jvm.Cond.code ({ cls := "java/util/ArrayList", name := "elementData", desc := "(I)Ljava/lang/Object;" } : Jvm.MethodName) prog_36_method_18_code (2 : Nat) (Option.some (Jvm.ClassFile.FieldType.object "java/lang/Object"))) ∈ lw_all := lw_g (lw_at lw_m5 226 rfl) rfl
theorem q1701 : (Jvm.Cond.castable "java/util/ArrayList" "java/lang/Object") ∈ lw_tbl := lw_at lw_m7 204 rfl
theorem in_J2 : ∀ w ∈ wsJ20, w ∈ lw_all := lw_in wsJ20 [149, 145, 147] (by decide +kernel) (by decide +kernel)
/-! java/util/AbstractMap -/
set_option maxRecDepth 100000
def RJ3 : String := "java/util/AbstractMap"
abbrev cJ3_init : ByteArray := prog_32_method_1_code
def yJ3_init : MethodName := ⟨RJ3, "<init>", "()V"⟩
theorem dJ3_init_0 : decode cJ3_init 0 = .ok (.aload_n 0, 1) := by decide +kernel
theorem dJ3_init_1 : decode cJ3_init 1 = .ok (.invokespecial 1, 3) := by decide +kernel
theorem dJ3_init_4 : decode cJ3_init 4 = .ok (.return_, 1) := by decide +kernel
abbrev cJ3_isEmpty : ByteArray := prog_32_method_3_code
def yJ3_isEmpty : MethodName := ⟨RJ3, "isEmpty", "()Z"⟩
def dkwJ3_isEmpty_0 : List UInt8 := [42, 182, 0, 19, 154, 0, 7, 4, 167, 0, 4, 3, 172]
abbrev dktJ3_isEmpty_0 : List UInt8 := dkwJ3_isEmpty_0 ++ []
theorem dksJ3_isEmpty_0 : cJ3_isEmpty.data.toList.drop 0 = dktJ3_isEmpty_0 := by decide +kernel
theorem dJ3_isEmpty_0 : decode cJ3_isEmpty 0 = .ok (.aload_n 0, 1) := dk_42 (dk_at dksJ3_isEmpty_0 0 rfl rfl)
theorem dJ3_isEmpty_1 : decode cJ3_isEmpty 1 = .ok (.invokevirtual 19, 3) := dk_182 0 19 (dk_at dksJ3_isEmpty_0 1 rfl rfl)
theorem dJ3_isEmpty_4 : decode cJ3_isEmpty 4 = .ok (.ifCond .ne 7, 3) := dk_154 0 7 (dk_at dksJ3_isEmpty_0 4 rfl rfl)
theorem dJ3_isEmpty_7 : decode cJ3_isEmpty 7 = .ok (.iconst 1, 1) := dk_4 (dk_at dksJ3_isEmpty_0 7 rfl rfl)
theorem dJ3_isEmpty_8 : decode cJ3_isEmpty 8 = .ok (.goto 4, 3) := dk_167 0 4 (dk_at dksJ3_isEmpty_0 8 rfl rfl)
theorem dJ3_isEmpty_11 : decode cJ3_isEmpty 11 = .ok (.iconst 0, 1) := dk_3 (dk_at dksJ3_isEmpty_0 11 rfl rfl)
theorem dJ3_isEmpty_12 : decode cJ3_isEmpty 12 = .ok (.ireturn, 1) := dk_172 (dk_at dksJ3_isEmpty_0 12 rfl rfl)
theorem q63 : (Jvm.Cond.initialized "java/util/AbstractMap") ∈ lw_all := lw_g (lw_at lw_m1 6 rfl) rfl
theorem q158 : (Jvm.Cond.instanceMethod ({ cls := "java/util/AbstractMap", name := "<init>", desc := "()V" } : Jvm.MethodName)) ∈ lw_all := lw_g (lw_at lw_m1 101 rfl) rfl
theorem q159 : (Jvm.Cond.code ({ cls := "java/util/AbstractMap", name := "<init>", desc := "()V" } : Jvm.MethodName) prog_32_method_1_code (1 : Nat) (Option.none : Option Jvm.ClassFile.FieldType)) ∈ lw_all := lw_g (lw_at lw_m1 102 rfl) rfl
theorem q160 : (Jvm.Cond.methodLink "java/util/AbstractMap" (1 : Nat) ({ cls := "java/lang/Object", name := "<init>", desc := "()V" } : Jvm.MethodName)) ∈ lw_all := lw_g (lw_at lw_m1 103 rfl) rfl
theorem q181 : (Jvm.Cond.soleField "java/util/AbstractMap" "keySet") ∈ lw_all := lw_g (lw_at lw_m1 124 rfl) rfl
theorem q183 : (Jvm.Cond.soleField "java/util/AbstractMap" "values") ∈ lw_all := lw_g (lw_at lw_m1 126 rfl) rfl
theorem q1292 : (Jvm.Cond.declares ({ cls := "java/util/AbstractMap", name := "isEmpty", desc := "()Z" } : Jvm.MethodName)) ∈ lw_tbl := lw_at lw_m6 35 rfl
theorem q1294 : (Jvm.Cond.instanceMethod ({ cls := "java/util/AbstractMap", name := "isEmpty", desc := "()Z" } : Jvm.MethodName)) ∈ lw_all := lw_g (lw_at lw_m6 37 rfl) rfl
theorem q1295 : (Jvm.Cond.code ({ cls := "java/util/AbstractMap", name := "isEmpty", desc := "()Z" } : Jvm.MethodName) prog_32_method_3_code (1 : Nat) (Option.some Jvm.ClassFile.FieldType.boolean)) ∈ lw_all := lw_g (lw_at lw_m6 38 rfl) rfl
theorem q1296 : (Jvm.Cond.methodLink "java/util/AbstractMap" (19 : Nat) ({ cls := "java/util/AbstractMap", name := "size", desc := "()I" } : Jvm.MethodName)) ∈ lw_all := lw_g (lw_at lw_m6 39 rfl) rfl
theorem q1297 : (Jvm.Cond.instanceMethod ({ cls := "java/util/AbstractMap", name := "size", desc := "()I" } : Jvm.MethodName)) ∈ lw_all := lw_g (lw_at lw_m6 40 rfl) rfl
theorem q1298 : (Jvm.Cond.sameMethod "java/util/AbstractMap" "java/util/AbstractMap" "size" "()I") ∈ lw_all := lw_g (lw_at lw_m6 41 rfl) rfl
theorem q1300 : (Jvm.Cond.declares ({ cls := "java/util/AbstractMap", name := "size", desc := "()I" } : Jvm.MethodName)) ∈ lw_tbl := lw_at lw_m6 43 rfl
/-! java/util/TreeMap -/
set_option maxRecDepth 100000
def RJ4 : String := "java/util/TreeMap"
def TJ4 : u_T := fun k => match k with
  | 0 => ("java/util/AbstractMap", "keySet", "Ljava/util/Set;", false)
  | 1 => ("java/util/AbstractMap", "values", "Ljava/util/Collection;", false)
  | 2 => ("java/util/TreeMap", "comparator", "Ljava/util/Comparator;", true)
  | 3 => ("java/util/TreeMap", "root", "Ljava/util/TreeMap$Entry;", false)
  | 4 => ("java/util/TreeMap", "size", "I", false)
  | 5 => ("java/util/TreeMap", "modCount", "I", false)
  | 6 => ("java/util/TreeMap", "entrySet", "Ljava/util/TreeMap$EntrySet;", false)
  | 7 => ("java/util/TreeMap", "navigableKeySet", "Ljava/util/TreeMap$KeySet;", false)
  | _ => ("java/util/TreeMap", "descendingMap", "Ljava/util/NavigableMap;", false)
def tyJ4 : Nat → FieldType := fun k => match k with
  | 0 => .object "java/util/Set"
  | 1 => .object "java/util/Collection"
  | 2 => .object "java/util/Comparator"
  | 3 => .object "java/util/TreeMap$Entry"
  | 4 => .int
  | 5 => .int
  | 6 => .object "java/util/TreeMap$EntrySet"
  | 7 => .object "java/util/TreeMap$KeySet"
  | _ => .object "java/util/NavigableMap"
abbrev wsJ40 : List Cond := u_ws RJ4 TJ4 9
theorem nmJ4 : ∀ a, a < 9 → ∀ b, b < 9 → a ≠ b → (TJ4 a).2.1 ≠ (TJ4 b).2.1 := by decide +kernel
theorem tyJ4_ok : ∀ k, k < 9 → parseFieldDescriptor (TJ4 k).2.2.1 = some (tyJ4 k) := by decide +kernel
abbrev cJ4_init : ByteArray := prog_55_method_1_code
def yJ4_init : MethodName := ⟨RJ4, "<init>", "()V"⟩
def dkwJ4_init_0 : List UInt8 := [42, 183, 0, 1, 42, 3, 181, 0, 7, 42, 3, 181, 0, 13, 42, 1, 181, 0, 16, 177]
abbrev dktJ4_init_0 : List UInt8 := dkwJ4_init_0 ++ []
theorem dksJ4_init_0 : cJ4_init.data.toList.drop 0 = dktJ4_init_0 := by decide +kernel
theorem dJ4_init_0 : decode cJ4_init 0 = .ok (.aload_n 0, 1) := dk_42 (dk_at dksJ4_init_0 0 rfl rfl)
theorem dJ4_init_1 : decode cJ4_init 1 = .ok (.invokespecial 1, 3) := dk_183 0 1 (dk_at dksJ4_init_0 1 rfl rfl)
theorem dJ4_init_4 : decode cJ4_init 4 = .ok (.aload_n 0, 1) := dk_42 (dk_at dksJ4_init_0 4 rfl rfl)
theorem dJ4_init_5 : decode cJ4_init 5 = .ok (.iconst 0, 1) := dk_3 (dk_at dksJ4_init_0 5 rfl rfl)
theorem dJ4_init_6 : decode cJ4_init 6 = .ok (.putfield 7, 3) := dk_181 0 7 (dk_at dksJ4_init_0 6 rfl rfl)
theorem dJ4_init_9 : decode cJ4_init 9 = .ok (.aload_n 0, 1) := dk_42 (dk_at dksJ4_init_0 9 rfl rfl)
theorem dJ4_init_10 : decode cJ4_init 10 = .ok (.iconst 0, 1) := dk_3 (dk_at dksJ4_init_0 10 rfl rfl)
theorem dJ4_init_11 : decode cJ4_init 11 = .ok (.putfield 13, 3) := dk_181 0 13 (dk_at dksJ4_init_0 11 rfl rfl)
theorem dJ4_init_14 : decode cJ4_init 14 = .ok (.aload_n 0, 1) := dk_42 (dk_at dksJ4_init_0 14 rfl rfl)
theorem dJ4_init_15 : decode cJ4_init 15 = .ok (.aconst_null, 1) := dk_1 (dk_at dksJ4_init_0 15 rfl rfl)
theorem dJ4_init_16 : decode cJ4_init 16 = .ok (.putfield 16, 3) := dk_181 0 16 (dk_at dksJ4_init_0 16 rfl rfl)
theorem dJ4_init_19 : decode cJ4_init 19 = .ok (.return_, 1) := dk_177 (dk_at dksJ4_init_0 19 rfl rfl)
abbrev cJ4_remove : ByteArray := prog_55_method_34_code
def yJ4_remove : MethodName := ⟨RJ4, "remove", "(Ljava/lang/Object;)Ljava/lang/Object;"⟩
def dkwJ4_remove_0 : List UInt8 := [42, 43, 182, 0, 50, 77, 44, 199, 0, 5, 1, 176, 44, 180, 0, 58, 78, 42, 44, 182, 0, 174, 45, 176]
abbrev dktJ4_remove_0 : List UInt8 := dkwJ4_remove_0 ++ []
theorem dksJ4_remove_0 : cJ4_remove.data.toList.drop 0 = dktJ4_remove_0 := by decide +kernel
theorem dJ4_remove_0 : decode cJ4_remove 0 = .ok (.aload_n 0, 1) := dk_42 (dk_at dksJ4_remove_0 0 rfl rfl)
theorem dJ4_remove_1 : decode cJ4_remove 1 = .ok (.aload_n 1, 1) := dk_43 (dk_at dksJ4_remove_0 1 rfl rfl)
theorem dJ4_remove_2 : decode cJ4_remove 2 = .ok (.invokevirtual 50, 3) := dk_182 0 50 (dk_at dksJ4_remove_0 2 rfl rfl)
theorem dJ4_remove_5 : decode cJ4_remove 5 = .ok (.astore_n 2, 1) := dk_77 (dk_at dksJ4_remove_0 5 rfl rfl)
theorem dJ4_remove_6 : decode cJ4_remove 6 = .ok (.aload_n 2, 1) := dk_44 (dk_at dksJ4_remove_0 6 rfl rfl)
theorem dJ4_remove_7 : decode cJ4_remove 7 = .ok (.ifnonnull 5, 3) := dk_199 0 5 (dk_at dksJ4_remove_0 7 rfl rfl)
theorem dJ4_remove_10 : decode cJ4_remove 10 = .ok (.aconst_null, 1) := dk_1 (dk_at dksJ4_remove_0 10 rfl rfl)
theorem dJ4_remove_11 : decode cJ4_remove 11 = .ok (.areturn, 1) := dk_176 (dk_at dksJ4_remove_0 11 rfl rfl)
theorem dJ4_remove_12 : decode cJ4_remove 12 = .ok (.aload_n 2, 1) := dk_44 (dk_at dksJ4_remove_0 12 rfl rfl)
theorem dJ4_remove_13 : decode cJ4_remove 13 = .ok (.getfield 58, 3) := dk_180 0 58 (dk_at dksJ4_remove_0 13 rfl rfl)
theorem dJ4_remove_16 : decode cJ4_remove 16 = .ok (.astore_n 3, 1) := dk_78 (dk_at dksJ4_remove_0 16 rfl rfl)
theorem dJ4_remove_17 : decode cJ4_remove 17 = .ok (.aload_n 0, 1) := dk_42 (dk_at dksJ4_remove_0 17 rfl rfl)
theorem dJ4_remove_18 : decode cJ4_remove 18 = .ok (.aload_n 2, 1) := dk_44 (dk_at dksJ4_remove_0 18 rfl rfl)
theorem dJ4_remove_19 : decode cJ4_remove 19 = .ok (.invokevirtual 174, 3) := dk_182 0 174 (dk_at dksJ4_remove_0 19 rfl rfl)
theorem dJ4_remove_22 : decode cJ4_remove 22 = .ok (.aload_n 3, 1) := dk_45 (dk_at dksJ4_remove_0 22 rfl rfl)
theorem dJ4_remove_23 : decode cJ4_remove 23 = .ok (.areturn, 1) := dk_176 (dk_at dksJ4_remove_0 23 rfl rfl)
abbrev cJ4_getEntry : ByteArray := prog_55_method_15_code
def yJ4_getEntry : MethodName := ⟨RJ4, "getEntry", "(Ljava/lang/Object;)Ljava/util/TreeMap$Entry;"⟩
def dkwJ4_getEntry_3 : List UInt8 := [45, 176, 167, 255, 212, 1, 176]
abbrev dktJ4_getEntry_3 : List UInt8 := dkwJ4_getEntry_3 ++ []
def dkwJ4_getEntry_2 : List UInt8 := [156, 0, 11, 45, 180, 0, 111, 78, 167, 0, 18, 21, 4, 158, 0, 11, 45, 180, 0, 114, 78, 167, 0, 5]
abbrev dktJ4_getEntry_2 : List UInt8 := dkwJ4_getEntry_2 ++ dktJ4_getEntry_3
def dkwJ4_getEntry_1 : List UInt8 := [180, 0, 101, 78, 45, 198, 0, 46, 44, 45, 180, 0, 105, 185, 0, 107, 2, 0, 54, 4, 21, 4]
abbrev dktJ4_getEntry_1 : List UInt8 := dkwJ4_getEntry_1 ++ dktJ4_getEntry_2
def dkwJ4_getEntry_0 : List UInt8 := [42, 180, 0, 16, 198, 0, 9, 42, 43, 182, 0, 92, 176, 43, 184, 0, 95, 87, 43, 192, 0, 99, 77, 42]
abbrev dktJ4_getEntry_0 : List UInt8 := dkwJ4_getEntry_0 ++ dktJ4_getEntry_1
theorem dksJ4_getEntry_0 : cJ4_getEntry.data.toList.drop 0 = dktJ4_getEntry_0 := by decide +kernel
theorem dksJ4_getEntry_1 : cJ4_getEntry.data.toList.drop 24 = dktJ4_getEntry_1 := dk_seg dksJ4_getEntry_0 24 rfl rfl
theorem dksJ4_getEntry_2 : cJ4_getEntry.data.toList.drop 46 = dktJ4_getEntry_2 := dk_seg dksJ4_getEntry_1 22 rfl rfl
theorem dksJ4_getEntry_3 : cJ4_getEntry.data.toList.drop 70 = dktJ4_getEntry_3 := dk_seg dksJ4_getEntry_2 24 rfl rfl
theorem dJ4_getEntry_0 : decode cJ4_getEntry 0 = .ok (.aload_n 0, 1) := dk_42 (dk_at dksJ4_getEntry_0 0 rfl rfl)
theorem dJ4_getEntry_1 : decode cJ4_getEntry 1 = .ok (.getfield 16, 3) := dk_180 0 16 (dk_at dksJ4_getEntry_0 1 rfl rfl)
theorem dJ4_getEntry_4 : decode cJ4_getEntry 4 = .ok (.ifnull 9, 3) := dk_198 0 9 (dk_at dksJ4_getEntry_0 4 rfl rfl)
theorem dJ4_getEntry_7 : decode cJ4_getEntry 7 = .ok (.aload_n 0, 1) := dk_42 (dk_at dksJ4_getEntry_0 7 rfl rfl)
theorem dJ4_getEntry_8 : decode cJ4_getEntry 8 = .ok (.aload_n 1, 1) := dk_43 (dk_at dksJ4_getEntry_0 8 rfl rfl)
theorem dJ4_getEntry_9 : decode cJ4_getEntry 9 = .ok (.invokevirtual 92, 3) := dk_182 0 92 (dk_at dksJ4_getEntry_0 9 rfl rfl)
theorem dJ4_getEntry_12 : decode cJ4_getEntry 12 = .ok (.areturn, 1) := dk_176 (dk_at dksJ4_getEntry_0 12 rfl rfl)
theorem dJ4_getEntry_13 : decode cJ4_getEntry 13 = .ok (.aload_n 1, 1) := dk_43 (dk_at dksJ4_getEntry_0 13 rfl rfl)
theorem dJ4_getEntry_14 : decode cJ4_getEntry 14 = .ok (.invokestatic 95, 3) := dk_184 0 95 (dk_at dksJ4_getEntry_0 14 rfl rfl)
theorem dJ4_getEntry_17 : decode cJ4_getEntry 17 = .ok (.pop, 1) := dk_87 (dk_at dksJ4_getEntry_0 17 rfl rfl)
theorem dJ4_getEntry_18 : decode cJ4_getEntry 18 = .ok (.aload_n 1, 1) := dk_43 (dk_at dksJ4_getEntry_0 18 rfl rfl)
theorem dJ4_getEntry_19 : decode cJ4_getEntry 19 = .ok (.checkcast 99, 3) := dk_192 0 99 (dk_at dksJ4_getEntry_0 19 rfl rfl)
theorem dJ4_getEntry_22 : decode cJ4_getEntry 22 = .ok (.astore_n 2, 1) := dk_77 (dk_at dksJ4_getEntry_0 22 rfl rfl)
theorem dJ4_getEntry_23 : decode cJ4_getEntry 23 = .ok (.aload_n 0, 1) := dk_42 (dk_at dksJ4_getEntry_0 23 rfl rfl)
theorem dJ4_getEntry_24 : decode cJ4_getEntry 24 = .ok (.getfield 101, 3) := dk_180 0 101 (dk_at dksJ4_getEntry_1 0 rfl rfl)
theorem dJ4_getEntry_27 : decode cJ4_getEntry 27 = .ok (.astore_n 3, 1) := dk_78 (dk_at dksJ4_getEntry_1 3 rfl rfl)
theorem dJ4_getEntry_28 : decode cJ4_getEntry 28 = .ok (.aload_n 3, 1) := dk_45 (dk_at dksJ4_getEntry_1 4 rfl rfl)
theorem dJ4_getEntry_29 : decode cJ4_getEntry 29 = .ok (.ifnull 46, 3) := dk_198 0 46 (dk_at dksJ4_getEntry_1 5 rfl rfl)
theorem dJ4_getEntry_32 : decode cJ4_getEntry 32 = .ok (.aload_n 2, 1) := dk_44 (dk_at dksJ4_getEntry_1 8 rfl rfl)
theorem dJ4_getEntry_33 : decode cJ4_getEntry 33 = .ok (.aload_n 3, 1) := dk_45 (dk_at dksJ4_getEntry_1 9 rfl rfl)
theorem dJ4_getEntry_34 : decode cJ4_getEntry 34 = .ok (.getfield 105, 3) := dk_180 0 105 (dk_at dksJ4_getEntry_1 10 rfl rfl)
theorem dJ4_getEntry_37 : decode cJ4_getEntry 37 = .ok (.invokeinterface 107 2, 5) := by decide +kernel
theorem dJ4_getEntry_42 : decode cJ4_getEntry 42 = .ok (.istore 4, 2) := dk_54 4 (dk_at dksJ4_getEntry_1 18 rfl rfl)
theorem dJ4_getEntry_44 : decode cJ4_getEntry 44 = .ok (.iload 4, 2) := dk_21 4 (dk_at dksJ4_getEntry_1 20 rfl rfl)
theorem dJ4_getEntry_46 : decode cJ4_getEntry 46 = .ok (.ifCond .ge 11, 3) := dk_156 0 11 (dk_at dksJ4_getEntry_2 0 rfl rfl)
theorem dJ4_getEntry_49 : decode cJ4_getEntry 49 = .ok (.aload_n 3, 1) := dk_45 (dk_at dksJ4_getEntry_2 3 rfl rfl)
theorem dJ4_getEntry_50 : decode cJ4_getEntry 50 = .ok (.getfield 111, 3) := dk_180 0 111 (dk_at dksJ4_getEntry_2 4 rfl rfl)
theorem dJ4_getEntry_53 : decode cJ4_getEntry 53 = .ok (.astore_n 3, 1) := dk_78 (dk_at dksJ4_getEntry_2 7 rfl rfl)
theorem dJ4_getEntry_54 : decode cJ4_getEntry 54 = .ok (.goto 18, 3) := dk_167 0 18 (dk_at dksJ4_getEntry_2 8 rfl rfl)
theorem dJ4_getEntry_57 : decode cJ4_getEntry 57 = .ok (.iload 4, 2) := dk_21 4 (dk_at dksJ4_getEntry_2 11 rfl rfl)
theorem dJ4_getEntry_59 : decode cJ4_getEntry 59 = .ok (.ifCond .le 11, 3) := dk_158 0 11 (dk_at dksJ4_getEntry_2 13 rfl rfl)
theorem dJ4_getEntry_62 : decode cJ4_getEntry 62 = .ok (.aload_n 3, 1) := dk_45 (dk_at dksJ4_getEntry_2 16 rfl rfl)
theorem dJ4_getEntry_63 : decode cJ4_getEntry 63 = .ok (.getfield 114, 3) := dk_180 0 114 (dk_at dksJ4_getEntry_2 17 rfl rfl)
theorem dJ4_getEntry_66 : decode cJ4_getEntry 66 = .ok (.astore_n 3, 1) := dk_78 (dk_at dksJ4_getEntry_2 20 rfl rfl)
theorem dJ4_getEntry_67 : decode cJ4_getEntry 67 = .ok (.goto 5, 3) := dk_167 0 5 (dk_at dksJ4_getEntry_2 21 rfl rfl)
theorem dJ4_getEntry_70 : decode cJ4_getEntry 70 = .ok (.aload_n 3, 1) := dk_45 (dk_at dksJ4_getEntry_3 0 rfl rfl)
theorem dJ4_getEntry_71 : decode cJ4_getEntry 71 = .ok (.areturn, 1) := dk_176 (dk_at dksJ4_getEntry_3 1 rfl rfl)
theorem dJ4_getEntry_72 : decode cJ4_getEntry 72 = .ok (.goto (-44), 3) := dk_167 255 212 (dk_at dksJ4_getEntry_3 2 rfl rfl)
theorem dJ4_getEntry_75 : decode cJ4_getEntry 75 = .ok (.aconst_null, 1) := dk_1 (dk_at dksJ4_getEntry_3 5 rfl rfl)
theorem dJ4_getEntry_76 : decode cJ4_getEntry 76 = .ok (.areturn, 1) := dk_176 (dk_at dksJ4_getEntry_3 6 rfl rfl)
abbrev cJ4_getEntryUsingComparator : ByteArray := prog_55_method_16_code
def yJ4_getEntryUsingComparator : MethodName := ⟨RJ4, "getEntryUsingComparator", "(Ljava/lang/Object;)Ljava/util/TreeMap$Entry;"⟩
def dkwJ4_getEntryUsingComparator_3 : List UInt8 := [1, 176]
abbrev dktJ4_getEntryUsingComparator_3 : List UInt8 := dkwJ4_getEntryUsingComparator_3 ++ []
def dkwJ4_getEntryUsingComparator_2 : List UInt8 := [167, 0, 21, 21, 5, 158, 0, 13, 25, 4, 180, 0, 114, 58, 4, 167, 0, 6, 25, 4, 176, 167, 255, 204]
abbrev dktJ4_getEntryUsingComparator_2 : List UInt8 := dkwJ4_getEntryUsingComparator_2 ++ dktJ4_getEntryUsingComparator_3
def dkwJ4_getEntryUsingComparator_1 : List UInt8 := [25, 4, 180, 0, 105, 185, 0, 117, 3, 0, 54, 5, 21, 5, 156, 0, 13, 25, 4, 180, 0, 111, 58, 4]
abbrev dktJ4_getEntryUsingComparator_1 : List UInt8 := dkwJ4_getEntryUsingComparator_1 ++ dktJ4_getEntryUsingComparator_2
def dkwJ4_getEntryUsingComparator_0 : List UInt8 := [43, 77, 42, 180, 0, 16, 78, 45, 198, 0, 64, 42, 180, 0, 101, 58, 4, 25, 4, 198, 0, 53, 45, 44]
abbrev dktJ4_getEntryUsingComparator_0 : List UInt8 := dkwJ4_getEntryUsingComparator_0 ++ dktJ4_getEntryUsingComparator_1
theorem dksJ4_getEntryUsingComparator_0 : cJ4_getEntryUsingComparator.data.toList.drop 0 = dktJ4_getEntryUsingComparator_0 := by decide +kernel
theorem dksJ4_getEntryUsingComparator_1 : cJ4_getEntryUsingComparator.data.toList.drop 24 = dktJ4_getEntryUsingComparator_1 := dk_seg dksJ4_getEntryUsingComparator_0 24 rfl rfl
theorem dksJ4_getEntryUsingComparator_2 : cJ4_getEntryUsingComparator.data.toList.drop 48 = dktJ4_getEntryUsingComparator_2 := dk_seg dksJ4_getEntryUsingComparator_1 24 rfl rfl
theorem dksJ4_getEntryUsingComparator_3 : cJ4_getEntryUsingComparator.data.toList.drop 72 = dktJ4_getEntryUsingComparator_3 := dk_seg dksJ4_getEntryUsingComparator_2 24 rfl rfl
theorem dJ4_getEntryUsingComparator_0 : decode cJ4_getEntryUsingComparator 0 = .ok (.aload_n 1, 1) := dk_43 (dk_at dksJ4_getEntryUsingComparator_0 0 rfl rfl)
theorem dJ4_getEntryUsingComparator_1 : decode cJ4_getEntryUsingComparator 1 = .ok (.astore_n 2, 1) := dk_77 (dk_at dksJ4_getEntryUsingComparator_0 1 rfl rfl)
theorem dJ4_getEntryUsingComparator_2 : decode cJ4_getEntryUsingComparator 2 = .ok (.aload_n 0, 1) := dk_42 (dk_at dksJ4_getEntryUsingComparator_0 2 rfl rfl)
theorem dJ4_getEntryUsingComparator_3 : decode cJ4_getEntryUsingComparator 3 = .ok (.getfield 16, 3) := dk_180 0 16 (dk_at dksJ4_getEntryUsingComparator_0 3 rfl rfl)
theorem dJ4_getEntryUsingComparator_6 : decode cJ4_getEntryUsingComparator 6 = .ok (.astore_n 3, 1) := dk_78 (dk_at dksJ4_getEntryUsingComparator_0 6 rfl rfl)
theorem dJ4_getEntryUsingComparator_7 : decode cJ4_getEntryUsingComparator 7 = .ok (.aload_n 3, 1) := dk_45 (dk_at dksJ4_getEntryUsingComparator_0 7 rfl rfl)
theorem dJ4_getEntryUsingComparator_8 : decode cJ4_getEntryUsingComparator 8 = .ok (.ifnull 64, 3) := dk_198 0 64 (dk_at dksJ4_getEntryUsingComparator_0 8 rfl rfl)
theorem dJ4_getEntryUsingComparator_11 : decode cJ4_getEntryUsingComparator 11 = .ok (.aload_n 0, 1) := dk_42 (dk_at dksJ4_getEntryUsingComparator_0 11 rfl rfl)
theorem dJ4_getEntryUsingComparator_12 : decode cJ4_getEntryUsingComparator 12 = .ok (.getfield 101, 3) := dk_180 0 101 (dk_at dksJ4_getEntryUsingComparator_0 12 rfl rfl)
theorem dJ4_getEntryUsingComparator_15 : decode cJ4_getEntryUsingComparator 15 = .ok (.astore 4, 2) := dk_58 4 (dk_at dksJ4_getEntryUsingComparator_0 15 rfl rfl)
theorem dJ4_getEntryUsingComparator_17 : decode cJ4_getEntryUsingComparator 17 = .ok (.aload 4, 2) := dk_25 4 (dk_at dksJ4_getEntryUsingComparator_0 17 rfl rfl)
theorem dJ4_getEntryUsingComparator_19 : decode cJ4_getEntryUsingComparator 19 = .ok (.ifnull 53, 3) := dk_198 0 53 (dk_at dksJ4_getEntryUsingComparator_0 19 rfl rfl)
theorem dJ4_getEntryUsingComparator_22 : decode cJ4_getEntryUsingComparator 22 = .ok (.aload_n 3, 1) := dk_45 (dk_at dksJ4_getEntryUsingComparator_0 22 rfl rfl)
theorem dJ4_getEntryUsingComparator_23 : decode cJ4_getEntryUsingComparator 23 = .ok (.aload_n 2, 1) := dk_44 (dk_at dksJ4_getEntryUsingComparator_0 23 rfl rfl)
theorem dJ4_getEntryUsingComparator_24 : decode cJ4_getEntryUsingComparator 24 = .ok (.aload 4, 2) := dk_25 4 (dk_at dksJ4_getEntryUsingComparator_1 0 rfl rfl)
theorem dJ4_getEntryUsingComparator_26 : decode cJ4_getEntryUsingComparator 26 = .ok (.getfield 105, 3) := dk_180 0 105 (dk_at dksJ4_getEntryUsingComparator_1 2 rfl rfl)
theorem dJ4_getEntryUsingComparator_29 : decode cJ4_getEntryUsingComparator 29 = .ok (.invokeinterface 117 3, 5) := by decide +kernel
theorem dJ4_getEntryUsingComparator_34 : decode cJ4_getEntryUsingComparator 34 = .ok (.istore 5, 2) := dk_54 5 (dk_at dksJ4_getEntryUsingComparator_1 10 rfl rfl)
theorem dJ4_getEntryUsingComparator_36 : decode cJ4_getEntryUsingComparator 36 = .ok (.iload 5, 2) := dk_21 5 (dk_at dksJ4_getEntryUsingComparator_1 12 rfl rfl)
theorem dJ4_getEntryUsingComparator_38 : decode cJ4_getEntryUsingComparator 38 = .ok (.ifCond .ge 13, 3) := dk_156 0 13 (dk_at dksJ4_getEntryUsingComparator_1 14 rfl rfl)
theorem dJ4_getEntryUsingComparator_41 : decode cJ4_getEntryUsingComparator 41 = .ok (.aload 4, 2) := dk_25 4 (dk_at dksJ4_getEntryUsingComparator_1 17 rfl rfl)
theorem dJ4_getEntryUsingComparator_43 : decode cJ4_getEntryUsingComparator 43 = .ok (.getfield 111, 3) := dk_180 0 111 (dk_at dksJ4_getEntryUsingComparator_1 19 rfl rfl)
theorem dJ4_getEntryUsingComparator_46 : decode cJ4_getEntryUsingComparator 46 = .ok (.astore 4, 2) := dk_58 4 (dk_at dksJ4_getEntryUsingComparator_1 22 rfl rfl)
theorem dJ4_getEntryUsingComparator_48 : decode cJ4_getEntryUsingComparator 48 = .ok (.goto 21, 3) := dk_167 0 21 (dk_at dksJ4_getEntryUsingComparator_2 0 rfl rfl)
theorem dJ4_getEntryUsingComparator_51 : decode cJ4_getEntryUsingComparator 51 = .ok (.iload 5, 2) := dk_21 5 (dk_at dksJ4_getEntryUsingComparator_2 3 rfl rfl)
theorem dJ4_getEntryUsingComparator_53 : decode cJ4_getEntryUsingComparator 53 = .ok (.ifCond .le 13, 3) := dk_158 0 13 (dk_at dksJ4_getEntryUsingComparator_2 5 rfl rfl)
theorem dJ4_getEntryUsingComparator_56 : decode cJ4_getEntryUsingComparator 56 = .ok (.aload 4, 2) := dk_25 4 (dk_at dksJ4_getEntryUsingComparator_2 8 rfl rfl)
theorem dJ4_getEntryUsingComparator_58 : decode cJ4_getEntryUsingComparator 58 = .ok (.getfield 114, 3) := dk_180 0 114 (dk_at dksJ4_getEntryUsingComparator_2 10 rfl rfl)
theorem dJ4_getEntryUsingComparator_61 : decode cJ4_getEntryUsingComparator 61 = .ok (.astore 4, 2) := dk_58 4 (dk_at dksJ4_getEntryUsingComparator_2 13 rfl rfl)
theorem dJ4_getEntryUsingComparator_63 : decode cJ4_getEntryUsingComparator 63 = .ok (.goto 6, 3) := dk_167 0 6 (dk_at dksJ4_getEntryUsingComparator_2 15 rfl rfl)
theorem dJ4_getEntryUsingComparator_66 : decode cJ4_getEntryUsingComparator 66 = .ok (.aload 4, 2) := dk_25 4 (dk_at dksJ4_getEntryUsingComparator_2 18 rfl rfl)
theorem dJ4_getEntryUsingComparator_68 : decode cJ4_getEntryUsingComparator 68 = .ok (.areturn, 1) := dk_176 (dk_at dksJ4_getEntryUsingComparator_2 20 rfl rfl)
theorem dJ4_getEntryUsingComparator_69 : decode cJ4_getEntryUsingComparator 69 = .ok (.goto (-52), 3) := dk_167 255 204 (dk_at dksJ4_getEntryUsingComparator_2 21 rfl rfl)
theorem dJ4_getEntryUsingComparator_72 : decode cJ4_getEntryUsingComparator 72 = .ok (.aconst_null, 1) := dk_1 (dk_at dksJ4_getEntryUsingComparator_3 0 rfl rfl)
theorem dJ4_getEntryUsingComparator_73 : decode cJ4_getEntryUsingComparator 73 = .ok (.areturn, 1) := dk_176 (dk_at dksJ4_getEntryUsingComparator_3 1 rfl rfl)
abbrev cJ4_deleteEntry : ByteArray := prog_55_method_84_code
def yJ4_deleteEntry : MethodName := ⟨RJ4, "deleteEntry", "(Ljava/util/TreeMap$Entry;)V"⟩
def dkwJ4_deleteEntry_10 : List UInt8 := [180, 0, 124, 1, 181, 0, 114, 43, 1, 181, 0, 124, 177]
abbrev dktJ4_deleteEntry_10 : List UInt8 := dkwJ4_deleteEntry_10 ++ []
def dkwJ4_deleteEntry_9 : List UInt8 := [180, 0, 124, 1, 181, 0, 111, 167, 0, 22, 43, 43, 180, 0, 124, 180, 0, 114, 166, 0, 11, 43]
abbrev dktJ4_deleteEntry_9 : List UInt8 := dkwJ4_deleteEntry_9 ++ dktJ4_deleteEntry_10
def dkwJ4_deleteEntry_8 : List UInt8 := [182, 1, 61, 43, 180, 0, 124, 198, 0, 49, 43, 43, 180, 0, 124, 180, 0, 111, 166, 0, 14, 43]
abbrev dktJ4_deleteEntry_8 : List UInt8 := dkwJ4_deleteEntry_8 ++ dktJ4_deleteEntry_9
def dkwJ4_deleteEntry_7 : List UInt8 := [180, 0, 124, 199, 0, 11, 42, 1, 181, 0, 101, 167, 0, 69, 43, 180, 1, 34, 4, 160, 0, 8, 42, 43]
abbrev dktJ4_deleteEntry_7 : List UInt8 := dkwJ4_deleteEntry_7 ++ dktJ4_deleteEntry_8
def dkwJ4_deleteEntry_6 : List UInt8 := [181, 0, 114, 181, 0, 111, 43, 180, 1, 34, 4, 160, 0, 92, 42, 44, 182, 1, 61, 167, 0, 84, 43]
abbrev dktJ4_deleteEntry_6 : List UInt8 := dkwJ4_deleteEntry_6 ++ dktJ4_deleteEntry_7
def dkwJ4_deleteEntry_5 : List UInt8 := [181, 0, 111, 167, 0, 11, 43, 180, 0, 124, 44, 181, 0, 114, 43, 43, 43, 1, 90, 181, 0, 124, 90]
abbrev dktJ4_deleteEntry_5 : List UInt8 := dkwJ4_deleteEntry_5 ++ dktJ4_deleteEntry_6
def dkwJ4_deleteEntry_4 : List UInt8 := [44, 181, 0, 101, 167, 0, 33, 43, 43, 180, 0, 124, 180, 0, 111, 166, 0, 14, 43, 180, 0, 124, 44]
abbrev dktJ4_deleteEntry_4 : List UInt8 := dkwJ4_deleteEntry_4 ++ dktJ4_deleteEntry_5
def dkwJ4_deleteEntry_3 : List UInt8 := [180, 0, 114, 77, 44, 198, 0, 87, 44, 43, 180, 0, 124, 181, 0, 124, 43, 180, 0, 124, 199, 0, 11, 42]
abbrev dktJ4_deleteEntry_3 : List UInt8 := dkwJ4_deleteEntry_3 ++ dktJ4_deleteEntry_4
def dkwJ4_deleteEntry_2 : List UInt8 := [44, 180, 0, 58, 181, 0, 58, 44, 76, 43, 180, 0, 111, 198, 0, 10, 43, 180, 0, 111, 167, 0, 7, 43]
abbrev dktJ4_deleteEntry_2 : List UInt8 := dkwJ4_deleteEntry_2 ++ dktJ4_deleteEntry_3
def dkwJ4_deleteEntry_1 : List UInt8 := [198, 0, 33, 43, 180, 0, 114, 198, 0, 26, 43, 184, 0, 68, 77, 43, 44, 180, 0, 105, 181, 0, 105, 43]
abbrev dktJ4_deleteEntry_1 : List UInt8 := dkwJ4_deleteEntry_1 ++ dktJ4_deleteEntry_2
def dkwJ4_deleteEntry_0 : List UInt8 := [42, 89, 180, 0, 13, 4, 96, 181, 0, 13, 42, 89, 180, 0, 7, 4, 100, 181, 0, 7, 43, 180, 0, 111]
abbrev dktJ4_deleteEntry_0 : List UInt8 := dkwJ4_deleteEntry_0 ++ dktJ4_deleteEntry_1
theorem dksJ4_deleteEntry_0 : cJ4_deleteEntry.data.toList.drop 0 = dktJ4_deleteEntry_0 := by decide +kernel
theorem dksJ4_deleteEntry_1 : cJ4_deleteEntry.data.toList.drop 24 = dktJ4_deleteEntry_1 := dk_seg dksJ4_deleteEntry_0 24 rfl rfl
theorem dksJ4_deleteEntry_2 : cJ4_deleteEntry.data.toList.drop 48 = dktJ4_deleteEntry_2 := dk_seg dksJ4_deleteEntry_1 24 rfl rfl
theorem dksJ4_deleteEntry_3 : cJ4_deleteEntry.data.toList.drop 72 = dktJ4_deleteEntry_3 := dk_seg dksJ4_deleteEntry_2 24 rfl rfl
theorem dksJ4_deleteEntry_4 : cJ4_deleteEntry.data.toList.drop 96 = dktJ4_deleteEntry_4 := dk_seg dksJ4_deleteEntry_3 24 rfl rfl
theorem dksJ4_deleteEntry_5 : cJ4_deleteEntry.data.toList.drop 119 = dktJ4_deleteEntry_5 := dk_seg dksJ4_deleteEntry_4 23 rfl rfl
theorem dksJ4_deleteEntry_6 : cJ4_deleteEntry.data.toList.drop 142 = dktJ4_deleteEntry_6 := dk_seg dksJ4_deleteEntry_5 23 rfl rfl
theorem dksJ4_deleteEntry_7 : cJ4_deleteEntry.data.toList.drop 165 = dktJ4_deleteEntry_7 := dk_seg dksJ4_deleteEntry_6 23 rfl rfl
theorem dksJ4_deleteEntry_8 : cJ4_deleteEntry.data.toList.drop 189 = dktJ4_deleteEntry_8 := dk_seg dksJ4_deleteEntry_7 24 rfl rfl
theorem dksJ4_deleteEntry_9 : cJ4_deleteEntry.data.toList.drop 211 = dktJ4_deleteEntry_9 := dk_seg dksJ4_deleteEntry_8 22 rfl rfl
theorem dksJ4_deleteEntry_10 : cJ4_deleteEntry.data.toList.drop 233 = dktJ4_deleteEntry_10 := dk_seg dksJ4_deleteEntry_9 22 rfl rfl
theorem dJ4_deleteEntry_0 : decode cJ4_deleteEntry 0 = .ok (.aload_n 0, 1) := dk_42 (dk_at dksJ4_deleteEntry_0 0 rfl rfl)
theorem dJ4_deleteEntry_1 : decode cJ4_deleteEntry 1 = .ok (.dup, 1) := dk_89 (dk_at dksJ4_deleteEntry_0 1 rfl rfl)
theorem dJ4_deleteEntry_2 : decode cJ4_deleteEntry 2 = .ok (.getfield 13, 3) := dk_180 0 13 (dk_at dksJ4_deleteEntry_0 2 rfl rfl)
theorem dJ4_deleteEntry_5 : decode cJ4_deleteEntry 5 = .ok (.iconst 1, 1) := dk_4 (dk_at dksJ4_deleteEntry_0 5 rfl rfl)
theorem dJ4_deleteEntry_6 : decode cJ4_deleteEntry 6 = .ok (.iadd, 1) := dk_96 (dk_at dksJ4_deleteEntry_0 6 rfl rfl)
theorem dJ4_deleteEntry_7 : decode cJ4_deleteEntry 7 = .ok (.putfield 13, 3) := dk_181 0 13 (dk_at dksJ4_deleteEntry_0 7 rfl rfl)
theorem dJ4_deleteEntry_10 : decode cJ4_deleteEntry 10 = .ok (.aload_n 0, 1) := dk_42 (dk_at dksJ4_deleteEntry_0 10 rfl rfl)
theorem dJ4_deleteEntry_11 : decode cJ4_deleteEntry 11 = .ok (.dup, 1) := dk_89 (dk_at dksJ4_deleteEntry_0 11 rfl rfl)
theorem dJ4_deleteEntry_12 : decode cJ4_deleteEntry 12 = .ok (.getfield 7, 3) := dk_180 0 7 (dk_at dksJ4_deleteEntry_0 12 rfl rfl)
theorem dJ4_deleteEntry_15 : decode cJ4_deleteEntry 15 = .ok (.iconst 1, 1) := dk_4 (dk_at dksJ4_deleteEntry_0 15 rfl rfl)
theorem dJ4_deleteEntry_16 : decode cJ4_deleteEntry 16 = .ok (.isub, 1) := dk_100 (dk_at dksJ4_deleteEntry_0 16 rfl rfl)
theorem dJ4_deleteEntry_17 : decode cJ4_deleteEntry 17 = .ok (.putfield 7, 3) := dk_181 0 7 (dk_at dksJ4_deleteEntry_0 17 rfl rfl)
theorem dJ4_deleteEntry_20 : decode cJ4_deleteEntry 20 = .ok (.aload_n 1, 1) := dk_43 (dk_at dksJ4_deleteEntry_0 20 rfl rfl)
theorem dJ4_deleteEntry_21 : decode cJ4_deleteEntry 21 = .ok (.getfield 111, 3) := dk_180 0 111 (dk_at dksJ4_deleteEntry_0 21 rfl rfl)
theorem dJ4_deleteEntry_24 : decode cJ4_deleteEntry 24 = .ok (.ifnull 33, 3) := dk_198 0 33 (dk_at dksJ4_deleteEntry_1 0 rfl rfl)
theorem dJ4_deleteEntry_27 : decode cJ4_deleteEntry 27 = .ok (.aload_n 1, 1) := dk_43 (dk_at dksJ4_deleteEntry_1 3 rfl rfl)
theorem dJ4_deleteEntry_28 : decode cJ4_deleteEntry 28 = .ok (.getfield 114, 3) := dk_180 0 114 (dk_at dksJ4_deleteEntry_1 4 rfl rfl)
theorem dJ4_deleteEntry_31 : decode cJ4_deleteEntry 31 = .ok (.ifnull 26, 3) := dk_198 0 26 (dk_at dksJ4_deleteEntry_1 7 rfl rfl)
theorem dJ4_deleteEntry_34 : decode cJ4_deleteEntry 34 = .ok (.aload_n 1, 1) := dk_43 (dk_at dksJ4_deleteEntry_1 10 rfl rfl)
theorem dJ4_deleteEntry_35 : decode cJ4_deleteEntry 35 = .ok (.invokestatic 68, 3) := dk_184 0 68 (dk_at dksJ4_deleteEntry_1 11 rfl rfl)
theorem dJ4_deleteEntry_38 : decode cJ4_deleteEntry 38 = .ok (.astore_n 2, 1) := dk_77 (dk_at dksJ4_deleteEntry_1 14 rfl rfl)
theorem dJ4_deleteEntry_39 : decode cJ4_deleteEntry 39 = .ok (.aload_n 1, 1) := dk_43 (dk_at dksJ4_deleteEntry_1 15 rfl rfl)
theorem dJ4_deleteEntry_40 : decode cJ4_deleteEntry 40 = .ok (.aload_n 2, 1) := dk_44 (dk_at dksJ4_deleteEntry_1 16 rfl rfl)
theorem dJ4_deleteEntry_41 : decode cJ4_deleteEntry 41 = .ok (.getfield 105, 3) := dk_180 0 105 (dk_at dksJ4_deleteEntry_1 17 rfl rfl)
theorem dJ4_deleteEntry_44 : decode cJ4_deleteEntry 44 = .ok (.putfield 105, 3) := dk_181 0 105 (dk_at dksJ4_deleteEntry_1 20 rfl rfl)
theorem dJ4_deleteEntry_47 : decode cJ4_deleteEntry 47 = .ok (.aload_n 1, 1) := dk_43 (dk_at dksJ4_deleteEntry_1 23 rfl rfl)
theorem dJ4_deleteEntry_48 : decode cJ4_deleteEntry 48 = .ok (.aload_n 2, 1) := dk_44 (dk_at dksJ4_deleteEntry_2 0 rfl rfl)
theorem dJ4_deleteEntry_49 : decode cJ4_deleteEntry 49 = .ok (.getfield 58, 3) := dk_180 0 58 (dk_at dksJ4_deleteEntry_2 1 rfl rfl)
theorem dJ4_deleteEntry_52 : decode cJ4_deleteEntry 52 = .ok (.putfield 58, 3) := dk_181 0 58 (dk_at dksJ4_deleteEntry_2 4 rfl rfl)
theorem dJ4_deleteEntry_55 : decode cJ4_deleteEntry 55 = .ok (.aload_n 2, 1) := dk_44 (dk_at dksJ4_deleteEntry_2 7 rfl rfl)
theorem dJ4_deleteEntry_56 : decode cJ4_deleteEntry 56 = .ok (.astore_n 1, 1) := dk_76 (dk_at dksJ4_deleteEntry_2 8 rfl rfl)
theorem dJ4_deleteEntry_57 : decode cJ4_deleteEntry 57 = .ok (.aload_n 1, 1) := dk_43 (dk_at dksJ4_deleteEntry_2 9 rfl rfl)
theorem dJ4_deleteEntry_58 : decode cJ4_deleteEntry 58 = .ok (.getfield 111, 3) := dk_180 0 111 (dk_at dksJ4_deleteEntry_2 10 rfl rfl)
theorem dJ4_deleteEntry_61 : decode cJ4_deleteEntry 61 = .ok (.ifnull 10, 3) := dk_198 0 10 (dk_at dksJ4_deleteEntry_2 13 rfl rfl)
theorem dJ4_deleteEntry_64 : decode cJ4_deleteEntry 64 = .ok (.aload_n 1, 1) := dk_43 (dk_at dksJ4_deleteEntry_2 16 rfl rfl)
theorem dJ4_deleteEntry_65 : decode cJ4_deleteEntry 65 = .ok (.getfield 111, 3) := dk_180 0 111 (dk_at dksJ4_deleteEntry_2 17 rfl rfl)
theorem dJ4_deleteEntry_68 : decode cJ4_deleteEntry 68 = .ok (.goto 7, 3) := dk_167 0 7 (dk_at dksJ4_deleteEntry_2 20 rfl rfl)
theorem dJ4_deleteEntry_71 : decode cJ4_deleteEntry 71 = .ok (.aload_n 1, 1) := dk_43 (dk_at dksJ4_deleteEntry_2 23 rfl rfl)
theorem dJ4_deleteEntry_72 : decode cJ4_deleteEntry 72 = .ok (.getfield 114, 3) := dk_180 0 114 (dk_at dksJ4_deleteEntry_3 0 rfl rfl)
theorem dJ4_deleteEntry_75 : decode cJ4_deleteEntry 75 = .ok (.astore_n 2, 1) := dk_77 (dk_at dksJ4_deleteEntry_3 3 rfl rfl)
theorem dJ4_deleteEntry_76 : decode cJ4_deleteEntry 76 = .ok (.aload_n 2, 1) := dk_44 (dk_at dksJ4_deleteEntry_3 4 rfl rfl)
theorem dJ4_deleteEntry_77 : decode cJ4_deleteEntry 77 = .ok (.ifnull 87, 3) := dk_198 0 87 (dk_at dksJ4_deleteEntry_3 5 rfl rfl)
theorem dJ4_deleteEntry_80 : decode cJ4_deleteEntry 80 = .ok (.aload_n 2, 1) := dk_44 (dk_at dksJ4_deleteEntry_3 8 rfl rfl)
theorem dJ4_deleteEntry_81 : decode cJ4_deleteEntry 81 = .ok (.aload_n 1, 1) := dk_43 (dk_at dksJ4_deleteEntry_3 9 rfl rfl)
theorem dJ4_deleteEntry_82 : decode cJ4_deleteEntry 82 = .ok (.getfield 124, 3) := dk_180 0 124 (dk_at dksJ4_deleteEntry_3 10 rfl rfl)
theorem dJ4_deleteEntry_85 : decode cJ4_deleteEntry 85 = .ok (.putfield 124, 3) := dk_181 0 124 (dk_at dksJ4_deleteEntry_3 13 rfl rfl)
theorem dJ4_deleteEntry_88 : decode cJ4_deleteEntry 88 = .ok (.aload_n 1, 1) := dk_43 (dk_at dksJ4_deleteEntry_3 16 rfl rfl)
theorem dJ4_deleteEntry_89 : decode cJ4_deleteEntry 89 = .ok (.getfield 124, 3) := dk_180 0 124 (dk_at dksJ4_deleteEntry_3 17 rfl rfl)
theorem dJ4_deleteEntry_92 : decode cJ4_deleteEntry 92 = .ok (.ifnonnull 11, 3) := dk_199 0 11 (dk_at dksJ4_deleteEntry_3 20 rfl rfl)
theorem dJ4_deleteEntry_95 : decode cJ4_deleteEntry 95 = .ok (.aload_n 0, 1) := dk_42 (dk_at dksJ4_deleteEntry_3 23 rfl rfl)
theorem dJ4_deleteEntry_96 : decode cJ4_deleteEntry 96 = .ok (.aload_n 2, 1) := dk_44 (dk_at dksJ4_deleteEntry_4 0 rfl rfl)
theorem dJ4_deleteEntry_97 : decode cJ4_deleteEntry 97 = .ok (.putfield 101, 3) := dk_181 0 101 (dk_at dksJ4_deleteEntry_4 1 rfl rfl)
theorem dJ4_deleteEntry_100 : decode cJ4_deleteEntry 100 = .ok (.goto 33, 3) := dk_167 0 33 (dk_at dksJ4_deleteEntry_4 4 rfl rfl)
theorem dJ4_deleteEntry_103 : decode cJ4_deleteEntry 103 = .ok (.aload_n 1, 1) := dk_43 (dk_at dksJ4_deleteEntry_4 7 rfl rfl)
theorem dJ4_deleteEntry_104 : decode cJ4_deleteEntry 104 = .ok (.aload_n 1, 1) := dk_43 (dk_at dksJ4_deleteEntry_4 8 rfl rfl)
theorem dJ4_deleteEntry_105 : decode cJ4_deleteEntry 105 = .ok (.getfield 124, 3) := dk_180 0 124 (dk_at dksJ4_deleteEntry_4 9 rfl rfl)
theorem dJ4_deleteEntry_108 : decode cJ4_deleteEntry 108 = .ok (.getfield 111, 3) := dk_180 0 111 (dk_at dksJ4_deleteEntry_4 12 rfl rfl)
theorem dJ4_deleteEntry_111 : decode cJ4_deleteEntry 111 = .ok (.if_acmp .ne 14, 3) := dk_166 0 14 (dk_at dksJ4_deleteEntry_4 15 rfl rfl)
theorem dJ4_deleteEntry_114 : decode cJ4_deleteEntry 114 = .ok (.aload_n 1, 1) := dk_43 (dk_at dksJ4_deleteEntry_4 18 rfl rfl)
theorem dJ4_deleteEntry_115 : decode cJ4_deleteEntry 115 = .ok (.getfield 124, 3) := dk_180 0 124 (dk_at dksJ4_deleteEntry_4 19 rfl rfl)
theorem dJ4_deleteEntry_118 : decode cJ4_deleteEntry 118 = .ok (.aload_n 2, 1) := dk_44 (dk_at dksJ4_deleteEntry_4 22 rfl rfl)
theorem dJ4_deleteEntry_119 : decode cJ4_deleteEntry 119 = .ok (.putfield 111, 3) := dk_181 0 111 (dk_at dksJ4_deleteEntry_5 0 rfl rfl)
theorem dJ4_deleteEntry_122 : decode cJ4_deleteEntry 122 = .ok (.goto 11, 3) := dk_167 0 11 (dk_at dksJ4_deleteEntry_5 3 rfl rfl)
theorem dJ4_deleteEntry_125 : decode cJ4_deleteEntry 125 = .ok (.aload_n 1, 1) := dk_43 (dk_at dksJ4_deleteEntry_5 6 rfl rfl)
theorem dJ4_deleteEntry_126 : decode cJ4_deleteEntry 126 = .ok (.getfield 124, 3) := dk_180 0 124 (dk_at dksJ4_deleteEntry_5 7 rfl rfl)
theorem dJ4_deleteEntry_129 : decode cJ4_deleteEntry 129 = .ok (.aload_n 2, 1) := dk_44 (dk_at dksJ4_deleteEntry_5 10 rfl rfl)
theorem dJ4_deleteEntry_130 : decode cJ4_deleteEntry 130 = .ok (.putfield 114, 3) := dk_181 0 114 (dk_at dksJ4_deleteEntry_5 11 rfl rfl)
theorem dJ4_deleteEntry_133 : decode cJ4_deleteEntry 133 = .ok (.aload_n 1, 1) := dk_43 (dk_at dksJ4_deleteEntry_5 14 rfl rfl)
theorem dJ4_deleteEntry_134 : decode cJ4_deleteEntry 134 = .ok (.aload_n 1, 1) := dk_43 (dk_at dksJ4_deleteEntry_5 15 rfl rfl)
theorem dJ4_deleteEntry_135 : decode cJ4_deleteEntry 135 = .ok (.aload_n 1, 1) := dk_43 (dk_at dksJ4_deleteEntry_5 16 rfl rfl)
theorem dJ4_deleteEntry_136 : decode cJ4_deleteEntry 136 = .ok (.aconst_null, 1) := dk_1 (dk_at dksJ4_deleteEntry_5 17 rfl rfl)
theorem dJ4_deleteEntry_137 : decode cJ4_deleteEntry 137 = .ok (.dup_x1, 1) := dk_90 (dk_at dksJ4_deleteEntry_5 18 rfl rfl)
theorem dJ4_deleteEntry_138 : decode cJ4_deleteEntry 138 = .ok (.putfield 124, 3) := dk_181 0 124 (dk_at dksJ4_deleteEntry_5 19 rfl rfl)
theorem dJ4_deleteEntry_141 : decode cJ4_deleteEntry 141 = .ok (.dup_x1, 1) := dk_90 (dk_at dksJ4_deleteEntry_5 22 rfl rfl)
theorem dJ4_deleteEntry_142 : decode cJ4_deleteEntry 142 = .ok (.putfield 114, 3) := dk_181 0 114 (dk_at dksJ4_deleteEntry_6 0 rfl rfl)
theorem dJ4_deleteEntry_145 : decode cJ4_deleteEntry 145 = .ok (.putfield 111, 3) := dk_181 0 111 (dk_at dksJ4_deleteEntry_6 3 rfl rfl)
theorem dJ4_deleteEntry_148 : decode cJ4_deleteEntry 148 = .ok (.aload_n 1, 1) := dk_43 (dk_at dksJ4_deleteEntry_6 6 rfl rfl)
theorem dJ4_deleteEntry_149 : decode cJ4_deleteEntry 149 = .ok (.getfield 290, 3) := dk_180 1 34 (dk_at dksJ4_deleteEntry_6 7 rfl rfl)
theorem dJ4_deleteEntry_152 : decode cJ4_deleteEntry 152 = .ok (.iconst 1, 1) := dk_4 (dk_at dksJ4_deleteEntry_6 10 rfl rfl)
theorem dJ4_deleteEntry_153 : decode cJ4_deleteEntry 153 = .ok (.if_icmp .ne 92, 3) := dk_160 0 92 (dk_at dksJ4_deleteEntry_6 11 rfl rfl)
theorem dJ4_deleteEntry_156 : decode cJ4_deleteEntry 156 = .ok (.aload_n 0, 1) := dk_42 (dk_at dksJ4_deleteEntry_6 14 rfl rfl)
theorem dJ4_deleteEntry_157 : decode cJ4_deleteEntry 157 = .ok (.aload_n 2, 1) := dk_44 (dk_at dksJ4_deleteEntry_6 15 rfl rfl)
theorem dJ4_deleteEntry_158 : decode cJ4_deleteEntry 158 = .ok (.invokevirtual 317, 3) := dk_182 1 61 (dk_at dksJ4_deleteEntry_6 16 rfl rfl)
theorem dJ4_deleteEntry_161 : decode cJ4_deleteEntry 161 = .ok (.goto 84, 3) := dk_167 0 84 (dk_at dksJ4_deleteEntry_6 19 rfl rfl)
theorem dJ4_deleteEntry_164 : decode cJ4_deleteEntry 164 = .ok (.aload_n 1, 1) := dk_43 (dk_at dksJ4_deleteEntry_6 22 rfl rfl)
theorem dJ4_deleteEntry_165 : decode cJ4_deleteEntry 165 = .ok (.getfield 124, 3) := dk_180 0 124 (dk_at dksJ4_deleteEntry_7 0 rfl rfl)
theorem dJ4_deleteEntry_168 : decode cJ4_deleteEntry 168 = .ok (.ifnonnull 11, 3) := dk_199 0 11 (dk_at dksJ4_deleteEntry_7 3 rfl rfl)
theorem dJ4_deleteEntry_171 : decode cJ4_deleteEntry 171 = .ok (.aload_n 0, 1) := dk_42 (dk_at dksJ4_deleteEntry_7 6 rfl rfl)
theorem dJ4_deleteEntry_172 : decode cJ4_deleteEntry 172 = .ok (.aconst_null, 1) := dk_1 (dk_at dksJ4_deleteEntry_7 7 rfl rfl)
theorem dJ4_deleteEntry_173 : decode cJ4_deleteEntry 173 = .ok (.putfield 101, 3) := dk_181 0 101 (dk_at dksJ4_deleteEntry_7 8 rfl rfl)
theorem dJ4_deleteEntry_176 : decode cJ4_deleteEntry 176 = .ok (.goto 69, 3) := dk_167 0 69 (dk_at dksJ4_deleteEntry_7 11 rfl rfl)
theorem dJ4_deleteEntry_179 : decode cJ4_deleteEntry 179 = .ok (.aload_n 1, 1) := dk_43 (dk_at dksJ4_deleteEntry_7 14 rfl rfl)
theorem dJ4_deleteEntry_180 : decode cJ4_deleteEntry 180 = .ok (.getfield 290, 3) := dk_180 1 34 (dk_at dksJ4_deleteEntry_7 15 rfl rfl)
theorem dJ4_deleteEntry_183 : decode cJ4_deleteEntry 183 = .ok (.iconst 1, 1) := dk_4 (dk_at dksJ4_deleteEntry_7 18 rfl rfl)
theorem dJ4_deleteEntry_184 : decode cJ4_deleteEntry 184 = .ok (.if_icmp .ne 8, 3) := dk_160 0 8 (dk_at dksJ4_deleteEntry_7 19 rfl rfl)
theorem dJ4_deleteEntry_187 : decode cJ4_deleteEntry 187 = .ok (.aload_n 0, 1) := dk_42 (dk_at dksJ4_deleteEntry_7 22 rfl rfl)
theorem dJ4_deleteEntry_188 : decode cJ4_deleteEntry 188 = .ok (.aload_n 1, 1) := dk_43 (dk_at dksJ4_deleteEntry_7 23 rfl rfl)
theorem dJ4_deleteEntry_189 : decode cJ4_deleteEntry 189 = .ok (.invokevirtual 317, 3) := dk_182 1 61 (dk_at dksJ4_deleteEntry_8 0 rfl rfl)
theorem dJ4_deleteEntry_192 : decode cJ4_deleteEntry 192 = .ok (.aload_n 1, 1) := dk_43 (dk_at dksJ4_deleteEntry_8 3 rfl rfl)
theorem dJ4_deleteEntry_193 : decode cJ4_deleteEntry 193 = .ok (.getfield 124, 3) := dk_180 0 124 (dk_at dksJ4_deleteEntry_8 4 rfl rfl)
theorem dJ4_deleteEntry_196 : decode cJ4_deleteEntry 196 = .ok (.ifnull 49, 3) := dk_198 0 49 (dk_at dksJ4_deleteEntry_8 7 rfl rfl)
theorem dJ4_deleteEntry_199 : decode cJ4_deleteEntry 199 = .ok (.aload_n 1, 1) := dk_43 (dk_at dksJ4_deleteEntry_8 10 rfl rfl)
theorem dJ4_deleteEntry_200 : decode cJ4_deleteEntry 200 = .ok (.aload_n 1, 1) := dk_43 (dk_at dksJ4_deleteEntry_8 11 rfl rfl)
theorem dJ4_deleteEntry_201 : decode cJ4_deleteEntry 201 = .ok (.getfield 124, 3) := dk_180 0 124 (dk_at dksJ4_deleteEntry_8 12 rfl rfl)
theorem dJ4_deleteEntry_204 : decode cJ4_deleteEntry 204 = .ok (.getfield 111, 3) := dk_180 0 111 (dk_at dksJ4_deleteEntry_8 15 rfl rfl)
theorem dJ4_deleteEntry_207 : decode cJ4_deleteEntry 207 = .ok (.if_acmp .ne 14, 3) := dk_166 0 14 (dk_at dksJ4_deleteEntry_8 18 rfl rfl)
theorem dJ4_deleteEntry_210 : decode cJ4_deleteEntry 210 = .ok (.aload_n 1, 1) := dk_43 (dk_at dksJ4_deleteEntry_8 21 rfl rfl)
theorem dJ4_deleteEntry_211 : decode cJ4_deleteEntry 211 = .ok (.getfield 124, 3) := dk_180 0 124 (dk_at dksJ4_deleteEntry_9 0 rfl rfl)
theorem dJ4_deleteEntry_214 : decode cJ4_deleteEntry 214 = .ok (.aconst_null, 1) := dk_1 (dk_at dksJ4_deleteEntry_9 3 rfl rfl)
theorem dJ4_deleteEntry_215 : decode cJ4_deleteEntry 215 = .ok (.putfield 111, 3) := dk_181 0 111 (dk_at dksJ4_deleteEntry_9 4 rfl rfl)
theorem dJ4_deleteEntry_218 : decode cJ4_deleteEntry 218 = .ok (.goto 22, 3) := dk_167 0 22 (dk_at dksJ4_deleteEntry_9 7 rfl rfl)
theorem dJ4_deleteEntry_221 : decode cJ4_deleteEntry 221 = .ok (.aload_n 1, 1) := dk_43 (dk_at dksJ4_deleteEntry_9 10 rfl rfl)
theorem dJ4_deleteEntry_222 : decode cJ4_deleteEntry 222 = .ok (.aload_n 1, 1) := dk_43 (dk_at dksJ4_deleteEntry_9 11 rfl rfl)
theorem dJ4_deleteEntry_223 : decode cJ4_deleteEntry 223 = .ok (.getfield 124, 3) := dk_180 0 124 (dk_at dksJ4_deleteEntry_9 12 rfl rfl)
theorem dJ4_deleteEntry_226 : decode cJ4_deleteEntry 226 = .ok (.getfield 114, 3) := dk_180 0 114 (dk_at dksJ4_deleteEntry_9 15 rfl rfl)
theorem dJ4_deleteEntry_229 : decode cJ4_deleteEntry 229 = .ok (.if_acmp .ne 11, 3) := dk_166 0 11 (dk_at dksJ4_deleteEntry_9 18 rfl rfl)
theorem dJ4_deleteEntry_232 : decode cJ4_deleteEntry 232 = .ok (.aload_n 1, 1) := dk_43 (dk_at dksJ4_deleteEntry_9 21 rfl rfl)
theorem dJ4_deleteEntry_233 : decode cJ4_deleteEntry 233 = .ok (.getfield 124, 3) := dk_180 0 124 (dk_at dksJ4_deleteEntry_10 0 rfl rfl)
theorem dJ4_deleteEntry_236 : decode cJ4_deleteEntry 236 = .ok (.aconst_null, 1) := dk_1 (dk_at dksJ4_deleteEntry_10 3 rfl rfl)
theorem dJ4_deleteEntry_237 : decode cJ4_deleteEntry 237 = .ok (.putfield 114, 3) := dk_181 0 114 (dk_at dksJ4_deleteEntry_10 4 rfl rfl)
theorem dJ4_deleteEntry_240 : decode cJ4_deleteEntry 240 = .ok (.aload_n 1, 1) := dk_43 (dk_at dksJ4_deleteEntry_10 7 rfl rfl)
theorem dJ4_deleteEntry_241 : decode cJ4_deleteEntry 241 = .ok (.aconst_null, 1) := dk_1 (dk_at dksJ4_deleteEntry_10 8 rfl rfl)
theorem dJ4_deleteEntry_242 : decode cJ4_deleteEntry 242 = .ok (.putfield 124, 3) := dk_181 0 124 (dk_at dksJ4_deleteEntry_10 9 rfl rfl)
theorem dJ4_deleteEntry_245 : decode cJ4_deleteEntry 245 = .ok (.return_, 1) := dk_177 (dk_at dksJ4_deleteEntry_10 12 rfl rfl)
abbrev cJ4_successor : ByteArray := prog_55_method_74_code
def yJ4_successor : MethodName := ⟨RJ4, "successor", "(Ljava/util/TreeMap$Entry;)Ljava/util/TreeMap$Entry;"⟩
def dkwJ4_successor_2 : List UInt8 := [44, 43, 180, 0, 114, 166, 0, 13, 43, 77, 43, 180, 0, 124, 76, 167, 255, 237, 43, 176]
abbrev dktJ4_successor_2 : List UInt8 := dkwJ4_successor_2 ++ []
def dkwJ4_successor_1 : List UInt8 := [198, 0, 11, 43, 180, 0, 111, 76, 167, 255, 244, 43, 176, 42, 180, 0, 124, 76, 42, 77, 43, 198, 0, 21]
abbrev dktJ4_successor_1 : List UInt8 := dkwJ4_successor_1 ++ dktJ4_successor_2
def dkwJ4_successor_0 : List UInt8 := [42, 199, 0, 5, 1, 176, 42, 180, 0, 114, 198, 0, 25, 42, 180, 0, 114, 76, 43, 180, 0, 111]
abbrev dktJ4_successor_0 : List UInt8 := dkwJ4_successor_0 ++ dktJ4_successor_1
theorem dksJ4_successor_0 : cJ4_successor.data.toList.drop 0 = dktJ4_successor_0 := by decide +kernel
theorem dksJ4_successor_1 : cJ4_successor.data.toList.drop 22 = dktJ4_successor_1 := dk_seg dksJ4_successor_0 22 rfl rfl
theorem dksJ4_successor_2 : cJ4_successor.data.toList.drop 46 = dktJ4_successor_2 := dk_seg dksJ4_successor_1 24 rfl rfl
theorem dJ4_successor_0 : decode cJ4_successor 0 = .ok (.aload_n 0, 1) := dk_42 (dk_at dksJ4_successor_0 0 rfl rfl)
theorem dJ4_successor_1 : decode cJ4_successor 1 = .ok (.ifnonnull 5, 3) := dk_199 0 5 (dk_at dksJ4_successor_0 1 rfl rfl)
theorem dJ4_successor_4 : decode cJ4_successor 4 = .ok (.aconst_null, 1) := dk_1 (dk_at dksJ4_successor_0 4 rfl rfl)
theorem dJ4_successor_5 : decode cJ4_successor 5 = .ok (.areturn, 1) := dk_176 (dk_at dksJ4_successor_0 5 rfl rfl)
theorem dJ4_successor_6 : decode cJ4_successor 6 = .ok (.aload_n 0, 1) := dk_42 (dk_at dksJ4_successor_0 6 rfl rfl)
theorem dJ4_successor_7 : decode cJ4_successor 7 = .ok (.getfield 114, 3) := dk_180 0 114 (dk_at dksJ4_successor_0 7 rfl rfl)
theorem dJ4_successor_10 : decode cJ4_successor 10 = .ok (.ifnull 25, 3) := dk_198 0 25 (dk_at dksJ4_successor_0 10 rfl rfl)
theorem dJ4_successor_13 : decode cJ4_successor 13 = .ok (.aload_n 0, 1) := dk_42 (dk_at dksJ4_successor_0 13 rfl rfl)
theorem dJ4_successor_14 : decode cJ4_successor 14 = .ok (.getfield 114, 3) := dk_180 0 114 (dk_at dksJ4_successor_0 14 rfl rfl)
theorem dJ4_successor_17 : decode cJ4_successor 17 = .ok (.astore_n 1, 1) := dk_76 (dk_at dksJ4_successor_0 17 rfl rfl)
theorem dJ4_successor_18 : decode cJ4_successor 18 = .ok (.aload_n 1, 1) := dk_43 (dk_at dksJ4_successor_0 18 rfl rfl)
theorem dJ4_successor_19 : decode cJ4_successor 19 = .ok (.getfield 111, 3) := dk_180 0 111 (dk_at dksJ4_successor_0 19 rfl rfl)
theorem dJ4_successor_22 : decode cJ4_successor 22 = .ok (.ifnull 11, 3) := dk_198 0 11 (dk_at dksJ4_successor_1 0 rfl rfl)
theorem dJ4_successor_25 : decode cJ4_successor 25 = .ok (.aload_n 1, 1) := dk_43 (dk_at dksJ4_successor_1 3 rfl rfl)
theorem dJ4_successor_26 : decode cJ4_successor 26 = .ok (.getfield 111, 3) := dk_180 0 111 (dk_at dksJ4_successor_1 4 rfl rfl)
theorem dJ4_successor_29 : decode cJ4_successor 29 = .ok (.astore_n 1, 1) := dk_76 (dk_at dksJ4_successor_1 7 rfl rfl)
theorem dJ4_successor_30 : decode cJ4_successor 30 = .ok (.goto (-12), 3) := dk_167 255 244 (dk_at dksJ4_successor_1 8 rfl rfl)
theorem dJ4_successor_33 : decode cJ4_successor 33 = .ok (.aload_n 1, 1) := dk_43 (dk_at dksJ4_successor_1 11 rfl rfl)
theorem dJ4_successor_34 : decode cJ4_successor 34 = .ok (.areturn, 1) := dk_176 (dk_at dksJ4_successor_1 12 rfl rfl)
theorem dJ4_successor_35 : decode cJ4_successor 35 = .ok (.aload_n 0, 1) := dk_42 (dk_at dksJ4_successor_1 13 rfl rfl)
theorem dJ4_successor_36 : decode cJ4_successor 36 = .ok (.getfield 124, 3) := dk_180 0 124 (dk_at dksJ4_successor_1 14 rfl rfl)
theorem dJ4_successor_39 : decode cJ4_successor 39 = .ok (.astore_n 1, 1) := dk_76 (dk_at dksJ4_successor_1 17 rfl rfl)
theorem dJ4_successor_40 : decode cJ4_successor 40 = .ok (.aload_n 0, 1) := dk_42 (dk_at dksJ4_successor_1 18 rfl rfl)
theorem dJ4_successor_41 : decode cJ4_successor 41 = .ok (.astore_n 2, 1) := dk_77 (dk_at dksJ4_successor_1 19 rfl rfl)
theorem dJ4_successor_42 : decode cJ4_successor 42 = .ok (.aload_n 1, 1) := dk_43 (dk_at dksJ4_successor_1 20 rfl rfl)
theorem dJ4_successor_43 : decode cJ4_successor 43 = .ok (.ifnull 21, 3) := dk_198 0 21 (dk_at dksJ4_successor_1 21 rfl rfl)
theorem dJ4_successor_46 : decode cJ4_successor 46 = .ok (.aload_n 2, 1) := dk_44 (dk_at dksJ4_successor_2 0 rfl rfl)
theorem dJ4_successor_47 : decode cJ4_successor 47 = .ok (.aload_n 1, 1) := dk_43 (dk_at dksJ4_successor_2 1 rfl rfl)
theorem dJ4_successor_48 : decode cJ4_successor 48 = .ok (.getfield 114, 3) := dk_180 0 114 (dk_at dksJ4_successor_2 2 rfl rfl)
theorem dJ4_successor_51 : decode cJ4_successor 51 = .ok (.if_acmp .ne 13, 3) := dk_166 0 13 (dk_at dksJ4_successor_2 5 rfl rfl)
theorem dJ4_successor_54 : decode cJ4_successor 54 = .ok (.aload_n 1, 1) := dk_43 (dk_at dksJ4_successor_2 8 rfl rfl)
theorem dJ4_successor_55 : decode cJ4_successor 55 = .ok (.astore_n 2, 1) := dk_77 (dk_at dksJ4_successor_2 9 rfl rfl)
theorem dJ4_successor_56 : decode cJ4_successor 56 = .ok (.aload_n 1, 1) := dk_43 (dk_at dksJ4_successor_2 10 rfl rfl)
theorem dJ4_successor_57 : decode cJ4_successor 57 = .ok (.getfield 124, 3) := dk_180 0 124 (dk_at dksJ4_successor_2 11 rfl rfl)
theorem dJ4_successor_60 : decode cJ4_successor 60 = .ok (.astore_n 1, 1) := dk_76 (dk_at dksJ4_successor_2 14 rfl rfl)
theorem dJ4_successor_61 : decode cJ4_successor 61 = .ok (.goto (-19), 3) := dk_167 255 237 (dk_at dksJ4_successor_2 15 rfl rfl)
theorem dJ4_successor_64 : decode cJ4_successor 64 = .ok (.aload_n 1, 1) := dk_43 (dk_at dksJ4_successor_2 18 rfl rfl)
theorem dJ4_successor_65 : decode cJ4_successor 65 = .ok (.areturn, 1) := dk_176 (dk_at dksJ4_successor_2 19 rfl rfl)
abbrev cJ4_fixAfterDeletion : ByteArray := prog_55_method_85_code
def yJ4_fixAfterDeletion : MethodName := ⟨RJ4, "fixAfterDeletion", "(Ljava/util/TreeMap$Entry;)V"⟩
def dkwJ4_fixAfterDeletion_14 : List UInt8 := [182, 1, 58, 42, 180, 0, 101, 76, 167, 254, 170, 43, 4, 184, 1, 51, 177]
abbrev dktJ4_fixAfterDeletion_14 : List UInt8 := dkwJ4_fixAfterDeletion_14 ++ []
def dkwJ4_fixAfterDeletion_13 : List UInt8 := [184, 1, 51, 43, 184, 1, 38, 4, 184, 1, 51, 44, 184, 1, 41, 4, 184, 1, 51, 42, 43, 184, 1, 38]
abbrev dktJ4_fixAfterDeletion_13 : List UInt8 := dkwJ4_fixAfterDeletion_13 ++ dktJ4_fixAfterDeletion_14
def dkwJ4_fixAfterDeletion_12 : List UInt8 := [184, 1, 51, 42, 44, 182, 1, 55, 43, 184, 1, 38, 184, 1, 41, 77, 44, 43, 184, 1, 38, 184, 1, 47]
abbrev dktJ4_fixAfterDeletion_12 : List UInt8 := dkwJ4_fixAfterDeletion_12 ++ dktJ4_fixAfterDeletion_13
def dkwJ4_fixAfterDeletion_11 : List UInt8 := [167, 0, 80, 44, 184, 1, 41, 184, 1, 47, 4, 160, 0, 29, 44, 184, 1, 44, 4, 184, 1, 51, 44, 3]
abbrev dktJ4_fixAfterDeletion_11 : List UInt8 := dkwJ4_fixAfterDeletion_11 ++ dktJ4_fixAfterDeletion_12
def dkwJ4_fixAfterDeletion_10 : List UInt8 := [160, 0, 27, 44, 184, 1, 41, 184, 1, 47, 4, 160, 0, 16, 44, 3, 184, 1, 51, 43, 184, 1, 38, 76]
abbrev dktJ4_fixAfterDeletion_10 : List UInt8 := dkwJ4_fixAfterDeletion_10 ++ dktJ4_fixAfterDeletion_11
def dkwJ4_fixAfterDeletion_9 : List UInt8 := [42, 43, 184, 1, 38, 182, 1, 58, 43, 184, 1, 38, 184, 1, 41, 77, 44, 184, 1, 44, 184, 1, 47, 4]
abbrev dktJ4_fixAfterDeletion_9 : List UInt8 := dkwJ4_fixAfterDeletion_9 ++ dktJ4_fixAfterDeletion_10
def dkwJ4_fixAfterDeletion_8 : List UInt8 := [184, 1, 41, 77, 44, 184, 1, 47, 154, 0, 32, 44, 4, 184, 1, 51, 43, 184, 1, 38, 3, 184, 1, 51]
abbrev dktJ4_fixAfterDeletion_8 : List UInt8 := dkwJ4_fixAfterDeletion_8 ++ dktJ4_fixAfterDeletion_9
def dkwJ4_fixAfterDeletion_7 : List UInt8 := [4, 184, 1, 51, 42, 43, 184, 1, 38, 182, 1, 55, 42, 180, 0, 101, 76, 167, 255, 73, 43, 184, 1, 38]
abbrev dktJ4_fixAfterDeletion_7 : List UInt8 := dkwJ4_fixAfterDeletion_7 ++ dktJ4_fixAfterDeletion_8
def dkwJ4_fixAfterDeletion_6 : List UInt8 := [77, 44, 43, 184, 1, 38, 184, 1, 47, 184, 1, 51, 43, 184, 1, 38, 4, 184, 1, 51, 44, 184, 1, 44]
abbrev dktJ4_fixAfterDeletion_6 : List UInt8 := dkwJ4_fixAfterDeletion_6 ++ dktJ4_fixAfterDeletion_7
def dkwJ4_fixAfterDeletion_5 : List UInt8 := [184, 1, 41, 4, 184, 1, 51, 44, 3, 184, 1, 51, 42, 44, 182, 1, 58, 43, 184, 1, 38, 184, 1, 44]
abbrev dktJ4_fixAfterDeletion_5 : List UInt8 := dkwJ4_fixAfterDeletion_5 ++ dktJ4_fixAfterDeletion_6
def dkwJ4_fixAfterDeletion_4 : List UInt8 := [184, 1, 51, 43, 184, 1, 38, 76, 167, 0, 80, 44, 184, 1, 44, 184, 1, 47, 4, 160, 0, 29, 44]
abbrev dktJ4_fixAfterDeletion_4 : List UInt8 := dkwJ4_fixAfterDeletion_4 ++ dktJ4_fixAfterDeletion_5
def dkwJ4_fixAfterDeletion_3 : List UInt8 := [184, 1, 41, 184, 1, 47, 4, 160, 0, 27, 44, 184, 1, 44, 184, 1, 47, 4, 160, 0, 16, 44, 3]
abbrev dktJ4_fixAfterDeletion_3 : List UInt8 := dkwJ4_fixAfterDeletion_3 ++ dktJ4_fixAfterDeletion_4
def dkwJ4_fixAfterDeletion_2 : List UInt8 := [184, 1, 38, 3, 184, 1, 51, 42, 43, 184, 1, 38, 182, 1, 55, 43, 184, 1, 38, 184, 1, 44, 77, 44]
abbrev dktJ4_fixAfterDeletion_2 : List UInt8 := dkwJ4_fixAfterDeletion_2 ++ dktJ4_fixAfterDeletion_3
def dkwJ4_fixAfterDeletion_1 : List UInt8 := [166, 0, 162, 43, 184, 1, 38, 184, 1, 44, 77, 44, 184, 1, 47, 154, 0, 32, 44, 4, 184, 1, 51, 43]
abbrev dktJ4_fixAfterDeletion_1 : List UInt8 := dkwJ4_fixAfterDeletion_1 ++ dktJ4_fixAfterDeletion_2
def dkwJ4_fixAfterDeletion_0 : List UInt8 := [43, 42, 180, 0, 101, 165, 1, 84, 43, 184, 1, 47, 4, 160, 1, 76, 43, 43, 184, 1, 38, 184, 1, 41]
abbrev dktJ4_fixAfterDeletion_0 : List UInt8 := dkwJ4_fixAfterDeletion_0 ++ dktJ4_fixAfterDeletion_1
theorem dksJ4_fixAfterDeletion_0 : cJ4_fixAfterDeletion.data.toList.drop 0 = dktJ4_fixAfterDeletion_0 := by decide +kernel
theorem dksJ4_fixAfterDeletion_1 : cJ4_fixAfterDeletion.data.toList.drop 24 = dktJ4_fixAfterDeletion_1 := dk_seg dksJ4_fixAfterDeletion_0 24 rfl rfl
theorem dksJ4_fixAfterDeletion_2 : cJ4_fixAfterDeletion.data.toList.drop 48 = dktJ4_fixAfterDeletion_2 := dk_seg dksJ4_fixAfterDeletion_1 24 rfl rfl
theorem dksJ4_fixAfterDeletion_3 : cJ4_fixAfterDeletion.data.toList.drop 72 = dktJ4_fixAfterDeletion_3 := dk_seg dksJ4_fixAfterDeletion_2 24 rfl rfl
theorem dksJ4_fixAfterDeletion_4 : cJ4_fixAfterDeletion.data.toList.drop 95 = dktJ4_fixAfterDeletion_4 := dk_seg dksJ4_fixAfterDeletion_3 23 rfl rfl
theorem dksJ4_fixAfterDeletion_5 : cJ4_fixAfterDeletion.data.toList.drop 118 = dktJ4_fixAfterDeletion_5 := dk_seg dksJ4_fixAfterDeletion_4 23 rfl rfl
theorem dksJ4_fixAfterDeletion_6 : cJ4_fixAfterDeletion.data.toList.drop 142 = dktJ4_fixAfterDeletion_6 := dk_seg dksJ4_fixAfterDeletion_5 24 rfl rfl
theorem dksJ4_fixAfterDeletion_7 : cJ4_fixAfterDeletion.data.toList.drop 166 = dktJ4_fixAfterDeletion_7 := dk_seg dksJ4_fixAfterDeletion_6 24 rfl rfl
theorem dksJ4_fixAfterDeletion_8 : cJ4_fixAfterDeletion.data.toList.drop 190 = dktJ4_fixAfterDeletion_8 := dk_seg dksJ4_fixAfterDeletion_7 24 rfl rfl
theorem dksJ4_fixAfterDeletion_9 : cJ4_fixAfterDeletion.data.toList.drop 214 = dktJ4_fixAfterDeletion_9 := dk_seg dksJ4_fixAfterDeletion_8 24 rfl rfl
theorem dksJ4_fixAfterDeletion_10 : cJ4_fixAfterDeletion.data.toList.drop 238 = dktJ4_fixAfterDeletion_10 := dk_seg dksJ4_fixAfterDeletion_9 24 rfl rfl
theorem dksJ4_fixAfterDeletion_11 : cJ4_fixAfterDeletion.data.toList.drop 262 = dktJ4_fixAfterDeletion_11 := dk_seg dksJ4_fixAfterDeletion_10 24 rfl rfl
theorem dksJ4_fixAfterDeletion_12 : cJ4_fixAfterDeletion.data.toList.drop 286 = dktJ4_fixAfterDeletion_12 := dk_seg dksJ4_fixAfterDeletion_11 24 rfl rfl
theorem dksJ4_fixAfterDeletion_13 : cJ4_fixAfterDeletion.data.toList.drop 310 = dktJ4_fixAfterDeletion_13 := dk_seg dksJ4_fixAfterDeletion_12 24 rfl rfl
theorem dksJ4_fixAfterDeletion_14 : cJ4_fixAfterDeletion.data.toList.drop 334 = dktJ4_fixAfterDeletion_14 := dk_seg dksJ4_fixAfterDeletion_13 24 rfl rfl
theorem dJ4_fixAfterDeletion_0 : decode cJ4_fixAfterDeletion 0 = .ok (.aload_n 1, 1) := dk_43 (dk_at dksJ4_fixAfterDeletion_0 0 rfl rfl)
theorem dJ4_fixAfterDeletion_1 : decode cJ4_fixAfterDeletion 1 = .ok (.aload_n 0, 1) := dk_42 (dk_at dksJ4_fixAfterDeletion_0 1 rfl rfl)
theorem dJ4_fixAfterDeletion_2 : decode cJ4_fixAfterDeletion 2 = .ok (.getfield 101, 3) := dk_180 0 101 (dk_at dksJ4_fixAfterDeletion_0 2 rfl rfl)
theorem dJ4_fixAfterDeletion_5 : decode cJ4_fixAfterDeletion 5 = .ok (.if_acmp .eq 340, 3) := dk_165 1 84 (dk_at dksJ4_fixAfterDeletion_0 5 rfl rfl)
theorem dJ4_fixAfterDeletion_8 : decode cJ4_fixAfterDeletion 8 = .ok (.aload_n 1, 1) := dk_43 (dk_at dksJ4_fixAfterDeletion_0 8 rfl rfl)
theorem dJ4_fixAfterDeletion_9 : decode cJ4_fixAfterDeletion 9 = .ok (.invokestatic 303, 3) := dk_184 1 47 (dk_at dksJ4_fixAfterDeletion_0 9 rfl rfl)
theorem dJ4_fixAfterDeletion_12 : decode cJ4_fixAfterDeletion 12 = .ok (.iconst 1, 1) := dk_4 (dk_at dksJ4_fixAfterDeletion_0 12 rfl rfl)
theorem dJ4_fixAfterDeletion_13 : decode cJ4_fixAfterDeletion 13 = .ok (.if_icmp .ne 332, 3) := dk_160 1 76 (dk_at dksJ4_fixAfterDeletion_0 13 rfl rfl)
theorem dJ4_fixAfterDeletion_16 : decode cJ4_fixAfterDeletion 16 = .ok (.aload_n 1, 1) := dk_43 (dk_at dksJ4_fixAfterDeletion_0 16 rfl rfl)
theorem dJ4_fixAfterDeletion_17 : decode cJ4_fixAfterDeletion 17 = .ok (.aload_n 1, 1) := dk_43 (dk_at dksJ4_fixAfterDeletion_0 17 rfl rfl)
theorem dJ4_fixAfterDeletion_18 : decode cJ4_fixAfterDeletion 18 = .ok (.invokestatic 294, 3) := dk_184 1 38 (dk_at dksJ4_fixAfterDeletion_0 18 rfl rfl)
theorem dJ4_fixAfterDeletion_21 : decode cJ4_fixAfterDeletion 21 = .ok (.invokestatic 297, 3) := dk_184 1 41 (dk_at dksJ4_fixAfterDeletion_0 21 rfl rfl)
theorem dJ4_fixAfterDeletion_24 : decode cJ4_fixAfterDeletion 24 = .ok (.if_acmp .ne 162, 3) := dk_166 0 162 (dk_at dksJ4_fixAfterDeletion_1 0 rfl rfl)
theorem dJ4_fixAfterDeletion_27 : decode cJ4_fixAfterDeletion 27 = .ok (.aload_n 1, 1) := dk_43 (dk_at dksJ4_fixAfterDeletion_1 3 rfl rfl)
theorem dJ4_fixAfterDeletion_28 : decode cJ4_fixAfterDeletion 28 = .ok (.invokestatic 294, 3) := dk_184 1 38 (dk_at dksJ4_fixAfterDeletion_1 4 rfl rfl)
theorem dJ4_fixAfterDeletion_31 : decode cJ4_fixAfterDeletion 31 = .ok (.invokestatic 300, 3) := dk_184 1 44 (dk_at dksJ4_fixAfterDeletion_1 7 rfl rfl)
theorem dJ4_fixAfterDeletion_34 : decode cJ4_fixAfterDeletion 34 = .ok (.astore_n 2, 1) := dk_77 (dk_at dksJ4_fixAfterDeletion_1 10 rfl rfl)
theorem dJ4_fixAfterDeletion_35 : decode cJ4_fixAfterDeletion 35 = .ok (.aload_n 2, 1) := dk_44 (dk_at dksJ4_fixAfterDeletion_1 11 rfl rfl)
theorem dJ4_fixAfterDeletion_36 : decode cJ4_fixAfterDeletion 36 = .ok (.invokestatic 303, 3) := dk_184 1 47 (dk_at dksJ4_fixAfterDeletion_1 12 rfl rfl)
theorem dJ4_fixAfterDeletion_39 : decode cJ4_fixAfterDeletion 39 = .ok (.ifCond .ne 32, 3) := dk_154 0 32 (dk_at dksJ4_fixAfterDeletion_1 15 rfl rfl)
theorem dJ4_fixAfterDeletion_42 : decode cJ4_fixAfterDeletion 42 = .ok (.aload_n 2, 1) := dk_44 (dk_at dksJ4_fixAfterDeletion_1 18 rfl rfl)
theorem dJ4_fixAfterDeletion_43 : decode cJ4_fixAfterDeletion 43 = .ok (.iconst 1, 1) := dk_4 (dk_at dksJ4_fixAfterDeletion_1 19 rfl rfl)
theorem dJ4_fixAfterDeletion_44 : decode cJ4_fixAfterDeletion 44 = .ok (.invokestatic 307, 3) := dk_184 1 51 (dk_at dksJ4_fixAfterDeletion_1 20 rfl rfl)
theorem dJ4_fixAfterDeletion_47 : decode cJ4_fixAfterDeletion 47 = .ok (.aload_n 1, 1) := dk_43 (dk_at dksJ4_fixAfterDeletion_1 23 rfl rfl)
theorem dJ4_fixAfterDeletion_48 : decode cJ4_fixAfterDeletion 48 = .ok (.invokestatic 294, 3) := dk_184 1 38 (dk_at dksJ4_fixAfterDeletion_2 0 rfl rfl)
theorem dJ4_fixAfterDeletion_51 : decode cJ4_fixAfterDeletion 51 = .ok (.iconst 0, 1) := dk_3 (dk_at dksJ4_fixAfterDeletion_2 3 rfl rfl)
theorem dJ4_fixAfterDeletion_52 : decode cJ4_fixAfterDeletion 52 = .ok (.invokestatic 307, 3) := dk_184 1 51 (dk_at dksJ4_fixAfterDeletion_2 4 rfl rfl)
theorem dJ4_fixAfterDeletion_55 : decode cJ4_fixAfterDeletion 55 = .ok (.aload_n 0, 1) := dk_42 (dk_at dksJ4_fixAfterDeletion_2 7 rfl rfl)
theorem dJ4_fixAfterDeletion_56 : decode cJ4_fixAfterDeletion 56 = .ok (.aload_n 1, 1) := dk_43 (dk_at dksJ4_fixAfterDeletion_2 8 rfl rfl)
theorem dJ4_fixAfterDeletion_57 : decode cJ4_fixAfterDeletion 57 = .ok (.invokestatic 294, 3) := dk_184 1 38 (dk_at dksJ4_fixAfterDeletion_2 9 rfl rfl)
theorem dJ4_fixAfterDeletion_60 : decode cJ4_fixAfterDeletion 60 = .ok (.invokevirtual 311, 3) := dk_182 1 55 (dk_at dksJ4_fixAfterDeletion_2 12 rfl rfl)
theorem dJ4_fixAfterDeletion_63 : decode cJ4_fixAfterDeletion 63 = .ok (.aload_n 1, 1) := dk_43 (dk_at dksJ4_fixAfterDeletion_2 15 rfl rfl)
theorem dJ4_fixAfterDeletion_64 : decode cJ4_fixAfterDeletion 64 = .ok (.invokestatic 294, 3) := dk_184 1 38 (dk_at dksJ4_fixAfterDeletion_2 16 rfl rfl)
theorem dJ4_fixAfterDeletion_67 : decode cJ4_fixAfterDeletion 67 = .ok (.invokestatic 300, 3) := dk_184 1 44 (dk_at dksJ4_fixAfterDeletion_2 19 rfl rfl)
theorem dJ4_fixAfterDeletion_70 : decode cJ4_fixAfterDeletion 70 = .ok (.astore_n 2, 1) := dk_77 (dk_at dksJ4_fixAfterDeletion_2 22 rfl rfl)
theorem dJ4_fixAfterDeletion_71 : decode cJ4_fixAfterDeletion 71 = .ok (.aload_n 2, 1) := dk_44 (dk_at dksJ4_fixAfterDeletion_2 23 rfl rfl)
theorem dJ4_fixAfterDeletion_72 : decode cJ4_fixAfterDeletion 72 = .ok (.invokestatic 297, 3) := dk_184 1 41 (dk_at dksJ4_fixAfterDeletion_3 0 rfl rfl)
theorem dJ4_fixAfterDeletion_75 : decode cJ4_fixAfterDeletion 75 = .ok (.invokestatic 303, 3) := dk_184 1 47 (dk_at dksJ4_fixAfterDeletion_3 3 rfl rfl)
theorem dJ4_fixAfterDeletion_78 : decode cJ4_fixAfterDeletion 78 = .ok (.iconst 1, 1) := dk_4 (dk_at dksJ4_fixAfterDeletion_3 6 rfl rfl)
theorem dJ4_fixAfterDeletion_79 : decode cJ4_fixAfterDeletion 79 = .ok (.if_icmp .ne 27, 3) := dk_160 0 27 (dk_at dksJ4_fixAfterDeletion_3 7 rfl rfl)
theorem dJ4_fixAfterDeletion_82 : decode cJ4_fixAfterDeletion 82 = .ok (.aload_n 2, 1) := dk_44 (dk_at dksJ4_fixAfterDeletion_3 10 rfl rfl)
theorem dJ4_fixAfterDeletion_83 : decode cJ4_fixAfterDeletion 83 = .ok (.invokestatic 300, 3) := dk_184 1 44 (dk_at dksJ4_fixAfterDeletion_3 11 rfl rfl)
theorem dJ4_fixAfterDeletion_86 : decode cJ4_fixAfterDeletion 86 = .ok (.invokestatic 303, 3) := dk_184 1 47 (dk_at dksJ4_fixAfterDeletion_3 14 rfl rfl)
theorem dJ4_fixAfterDeletion_89 : decode cJ4_fixAfterDeletion 89 = .ok (.iconst 1, 1) := dk_4 (dk_at dksJ4_fixAfterDeletion_3 17 rfl rfl)
theorem dJ4_fixAfterDeletion_90 : decode cJ4_fixAfterDeletion 90 = .ok (.if_icmp .ne 16, 3) := dk_160 0 16 (dk_at dksJ4_fixAfterDeletion_3 18 rfl rfl)
theorem dJ4_fixAfterDeletion_93 : decode cJ4_fixAfterDeletion 93 = .ok (.aload_n 2, 1) := dk_44 (dk_at dksJ4_fixAfterDeletion_3 21 rfl rfl)
theorem dJ4_fixAfterDeletion_94 : decode cJ4_fixAfterDeletion 94 = .ok (.iconst 0, 1) := dk_3 (dk_at dksJ4_fixAfterDeletion_3 22 rfl rfl)
theorem dJ4_fixAfterDeletion_95 : decode cJ4_fixAfterDeletion 95 = .ok (.invokestatic 307, 3) := dk_184 1 51 (dk_at dksJ4_fixAfterDeletion_4 0 rfl rfl)
theorem dJ4_fixAfterDeletion_98 : decode cJ4_fixAfterDeletion 98 = .ok (.aload_n 1, 1) := dk_43 (dk_at dksJ4_fixAfterDeletion_4 3 rfl rfl)
theorem dJ4_fixAfterDeletion_99 : decode cJ4_fixAfterDeletion 99 = .ok (.invokestatic 294, 3) := dk_184 1 38 (dk_at dksJ4_fixAfterDeletion_4 4 rfl rfl)
theorem dJ4_fixAfterDeletion_102 : decode cJ4_fixAfterDeletion 102 = .ok (.astore_n 1, 1) := dk_76 (dk_at dksJ4_fixAfterDeletion_4 7 rfl rfl)
theorem dJ4_fixAfterDeletion_103 : decode cJ4_fixAfterDeletion 103 = .ok (.goto 80, 3) := dk_167 0 80 (dk_at dksJ4_fixAfterDeletion_4 8 rfl rfl)
theorem dJ4_fixAfterDeletion_106 : decode cJ4_fixAfterDeletion 106 = .ok (.aload_n 2, 1) := dk_44 (dk_at dksJ4_fixAfterDeletion_4 11 rfl rfl)
theorem dJ4_fixAfterDeletion_107 : decode cJ4_fixAfterDeletion 107 = .ok (.invokestatic 300, 3) := dk_184 1 44 (dk_at dksJ4_fixAfterDeletion_4 12 rfl rfl)
theorem dJ4_fixAfterDeletion_110 : decode cJ4_fixAfterDeletion 110 = .ok (.invokestatic 303, 3) := dk_184 1 47 (dk_at dksJ4_fixAfterDeletion_4 15 rfl rfl)
theorem dJ4_fixAfterDeletion_113 : decode cJ4_fixAfterDeletion 113 = .ok (.iconst 1, 1) := dk_4 (dk_at dksJ4_fixAfterDeletion_4 18 rfl rfl)
theorem dJ4_fixAfterDeletion_114 : decode cJ4_fixAfterDeletion 114 = .ok (.if_icmp .ne 29, 3) := dk_160 0 29 (dk_at dksJ4_fixAfterDeletion_4 19 rfl rfl)
theorem dJ4_fixAfterDeletion_117 : decode cJ4_fixAfterDeletion 117 = .ok (.aload_n 2, 1) := dk_44 (dk_at dksJ4_fixAfterDeletion_4 22 rfl rfl)
theorem dJ4_fixAfterDeletion_118 : decode cJ4_fixAfterDeletion 118 = .ok (.invokestatic 297, 3) := dk_184 1 41 (dk_at dksJ4_fixAfterDeletion_5 0 rfl rfl)
theorem dJ4_fixAfterDeletion_121 : decode cJ4_fixAfterDeletion 121 = .ok (.iconst 1, 1) := dk_4 (dk_at dksJ4_fixAfterDeletion_5 3 rfl rfl)
theorem dJ4_fixAfterDeletion_122 : decode cJ4_fixAfterDeletion 122 = .ok (.invokestatic 307, 3) := dk_184 1 51 (dk_at dksJ4_fixAfterDeletion_5 4 rfl rfl)
theorem dJ4_fixAfterDeletion_125 : decode cJ4_fixAfterDeletion 125 = .ok (.aload_n 2, 1) := dk_44 (dk_at dksJ4_fixAfterDeletion_5 7 rfl rfl)
theorem dJ4_fixAfterDeletion_126 : decode cJ4_fixAfterDeletion 126 = .ok (.iconst 0, 1) := dk_3 (dk_at dksJ4_fixAfterDeletion_5 8 rfl rfl)
theorem dJ4_fixAfterDeletion_127 : decode cJ4_fixAfterDeletion 127 = .ok (.invokestatic 307, 3) := dk_184 1 51 (dk_at dksJ4_fixAfterDeletion_5 9 rfl rfl)
theorem dJ4_fixAfterDeletion_130 : decode cJ4_fixAfterDeletion 130 = .ok (.aload_n 0, 1) := dk_42 (dk_at dksJ4_fixAfterDeletion_5 12 rfl rfl)
theorem dJ4_fixAfterDeletion_131 : decode cJ4_fixAfterDeletion 131 = .ok (.aload_n 2, 1) := dk_44 (dk_at dksJ4_fixAfterDeletion_5 13 rfl rfl)
theorem dJ4_fixAfterDeletion_132 : decode cJ4_fixAfterDeletion 132 = .ok (.invokevirtual 314, 3) := dk_182 1 58 (dk_at dksJ4_fixAfterDeletion_5 14 rfl rfl)
theorem dJ4_fixAfterDeletion_135 : decode cJ4_fixAfterDeletion 135 = .ok (.aload_n 1, 1) := dk_43 (dk_at dksJ4_fixAfterDeletion_5 17 rfl rfl)
theorem dJ4_fixAfterDeletion_136 : decode cJ4_fixAfterDeletion 136 = .ok (.invokestatic 294, 3) := dk_184 1 38 (dk_at dksJ4_fixAfterDeletion_5 18 rfl rfl)
theorem dJ4_fixAfterDeletion_139 : decode cJ4_fixAfterDeletion 139 = .ok (.invokestatic 300, 3) := dk_184 1 44 (dk_at dksJ4_fixAfterDeletion_5 21 rfl rfl)
theorem dJ4_fixAfterDeletion_142 : decode cJ4_fixAfterDeletion 142 = .ok (.astore_n 2, 1) := dk_77 (dk_at dksJ4_fixAfterDeletion_6 0 rfl rfl)
theorem dJ4_fixAfterDeletion_143 : decode cJ4_fixAfterDeletion 143 = .ok (.aload_n 2, 1) := dk_44 (dk_at dksJ4_fixAfterDeletion_6 1 rfl rfl)
theorem dJ4_fixAfterDeletion_144 : decode cJ4_fixAfterDeletion 144 = .ok (.aload_n 1, 1) := dk_43 (dk_at dksJ4_fixAfterDeletion_6 2 rfl rfl)
theorem dJ4_fixAfterDeletion_145 : decode cJ4_fixAfterDeletion 145 = .ok (.invokestatic 294, 3) := dk_184 1 38 (dk_at dksJ4_fixAfterDeletion_6 3 rfl rfl)
theorem dJ4_fixAfterDeletion_148 : decode cJ4_fixAfterDeletion 148 = .ok (.invokestatic 303, 3) := dk_184 1 47 (dk_at dksJ4_fixAfterDeletion_6 6 rfl rfl)
theorem dJ4_fixAfterDeletion_151 : decode cJ4_fixAfterDeletion 151 = .ok (.invokestatic 307, 3) := dk_184 1 51 (dk_at dksJ4_fixAfterDeletion_6 9 rfl rfl)
theorem dJ4_fixAfterDeletion_154 : decode cJ4_fixAfterDeletion 154 = .ok (.aload_n 1, 1) := dk_43 (dk_at dksJ4_fixAfterDeletion_6 12 rfl rfl)
theorem dJ4_fixAfterDeletion_155 : decode cJ4_fixAfterDeletion 155 = .ok (.invokestatic 294, 3) := dk_184 1 38 (dk_at dksJ4_fixAfterDeletion_6 13 rfl rfl)
theorem dJ4_fixAfterDeletion_158 : decode cJ4_fixAfterDeletion 158 = .ok (.iconst 1, 1) := dk_4 (dk_at dksJ4_fixAfterDeletion_6 16 rfl rfl)
theorem dJ4_fixAfterDeletion_159 : decode cJ4_fixAfterDeletion 159 = .ok (.invokestatic 307, 3) := dk_184 1 51 (dk_at dksJ4_fixAfterDeletion_6 17 rfl rfl)
theorem dJ4_fixAfterDeletion_162 : decode cJ4_fixAfterDeletion 162 = .ok (.aload_n 2, 1) := dk_44 (dk_at dksJ4_fixAfterDeletion_6 20 rfl rfl)
theorem dJ4_fixAfterDeletion_163 : decode cJ4_fixAfterDeletion 163 = .ok (.invokestatic 300, 3) := dk_184 1 44 (dk_at dksJ4_fixAfterDeletion_6 21 rfl rfl)
theorem dJ4_fixAfterDeletion_166 : decode cJ4_fixAfterDeletion 166 = .ok (.iconst 1, 1) := dk_4 (dk_at dksJ4_fixAfterDeletion_7 0 rfl rfl)
theorem dJ4_fixAfterDeletion_167 : decode cJ4_fixAfterDeletion 167 = .ok (.invokestatic 307, 3) := dk_184 1 51 (dk_at dksJ4_fixAfterDeletion_7 1 rfl rfl)
theorem dJ4_fixAfterDeletion_170 : decode cJ4_fixAfterDeletion 170 = .ok (.aload_n 0, 1) := dk_42 (dk_at dksJ4_fixAfterDeletion_7 4 rfl rfl)
theorem dJ4_fixAfterDeletion_171 : decode cJ4_fixAfterDeletion 171 = .ok (.aload_n 1, 1) := dk_43 (dk_at dksJ4_fixAfterDeletion_7 5 rfl rfl)
theorem dJ4_fixAfterDeletion_172 : decode cJ4_fixAfterDeletion 172 = .ok (.invokestatic 294, 3) := dk_184 1 38 (dk_at dksJ4_fixAfterDeletion_7 6 rfl rfl)
theorem dJ4_fixAfterDeletion_175 : decode cJ4_fixAfterDeletion 175 = .ok (.invokevirtual 311, 3) := dk_182 1 55 (dk_at dksJ4_fixAfterDeletion_7 9 rfl rfl)
theorem dJ4_fixAfterDeletion_178 : decode cJ4_fixAfterDeletion 178 = .ok (.aload_n 0, 1) := dk_42 (dk_at dksJ4_fixAfterDeletion_7 12 rfl rfl)
theorem dJ4_fixAfterDeletion_179 : decode cJ4_fixAfterDeletion 179 = .ok (.getfield 101, 3) := dk_180 0 101 (dk_at dksJ4_fixAfterDeletion_7 13 rfl rfl)
theorem dJ4_fixAfterDeletion_182 : decode cJ4_fixAfterDeletion 182 = .ok (.astore_n 1, 1) := dk_76 (dk_at dksJ4_fixAfterDeletion_7 16 rfl rfl)
theorem dJ4_fixAfterDeletion_183 : decode cJ4_fixAfterDeletion 183 = .ok (.goto (-183), 3) := dk_167 255 73 (dk_at dksJ4_fixAfterDeletion_7 17 rfl rfl)
theorem dJ4_fixAfterDeletion_186 : decode cJ4_fixAfterDeletion 186 = .ok (.aload_n 1, 1) := dk_43 (dk_at dksJ4_fixAfterDeletion_7 20 rfl rfl)
theorem dJ4_fixAfterDeletion_187 : decode cJ4_fixAfterDeletion 187 = .ok (.invokestatic 294, 3) := dk_184 1 38 (dk_at dksJ4_fixAfterDeletion_7 21 rfl rfl)
theorem dJ4_fixAfterDeletion_190 : decode cJ4_fixAfterDeletion 190 = .ok (.invokestatic 297, 3) := dk_184 1 41 (dk_at dksJ4_fixAfterDeletion_8 0 rfl rfl)
theorem dJ4_fixAfterDeletion_193 : decode cJ4_fixAfterDeletion 193 = .ok (.astore_n 2, 1) := dk_77 (dk_at dksJ4_fixAfterDeletion_8 3 rfl rfl)
theorem dJ4_fixAfterDeletion_194 : decode cJ4_fixAfterDeletion 194 = .ok (.aload_n 2, 1) := dk_44 (dk_at dksJ4_fixAfterDeletion_8 4 rfl rfl)
theorem dJ4_fixAfterDeletion_195 : decode cJ4_fixAfterDeletion 195 = .ok (.invokestatic 303, 3) := dk_184 1 47 (dk_at dksJ4_fixAfterDeletion_8 5 rfl rfl)
theorem dJ4_fixAfterDeletion_198 : decode cJ4_fixAfterDeletion 198 = .ok (.ifCond .ne 32, 3) := dk_154 0 32 (dk_at dksJ4_fixAfterDeletion_8 8 rfl rfl)
theorem dJ4_fixAfterDeletion_201 : decode cJ4_fixAfterDeletion 201 = .ok (.aload_n 2, 1) := dk_44 (dk_at dksJ4_fixAfterDeletion_8 11 rfl rfl)
theorem dJ4_fixAfterDeletion_202 : decode cJ4_fixAfterDeletion 202 = .ok (.iconst 1, 1) := dk_4 (dk_at dksJ4_fixAfterDeletion_8 12 rfl rfl)
theorem dJ4_fixAfterDeletion_203 : decode cJ4_fixAfterDeletion 203 = .ok (.invokestatic 307, 3) := dk_184 1 51 (dk_at dksJ4_fixAfterDeletion_8 13 rfl rfl)
theorem dJ4_fixAfterDeletion_206 : decode cJ4_fixAfterDeletion 206 = .ok (.aload_n 1, 1) := dk_43 (dk_at dksJ4_fixAfterDeletion_8 16 rfl rfl)
theorem dJ4_fixAfterDeletion_207 : decode cJ4_fixAfterDeletion 207 = .ok (.invokestatic 294, 3) := dk_184 1 38 (dk_at dksJ4_fixAfterDeletion_8 17 rfl rfl)
theorem dJ4_fixAfterDeletion_210 : decode cJ4_fixAfterDeletion 210 = .ok (.iconst 0, 1) := dk_3 (dk_at dksJ4_fixAfterDeletion_8 20 rfl rfl)
theorem dJ4_fixAfterDeletion_211 : decode cJ4_fixAfterDeletion 211 = .ok (.invokestatic 307, 3) := dk_184 1 51 (dk_at dksJ4_fixAfterDeletion_8 21 rfl rfl)
theorem dJ4_fixAfterDeletion_214 : decode cJ4_fixAfterDeletion 214 = .ok (.aload_n 0, 1) := dk_42 (dk_at dksJ4_fixAfterDeletion_9 0 rfl rfl)
theorem dJ4_fixAfterDeletion_215 : decode cJ4_fixAfterDeletion 215 = .ok (.aload_n 1, 1) := dk_43 (dk_at dksJ4_fixAfterDeletion_9 1 rfl rfl)
theorem dJ4_fixAfterDeletion_216 : decode cJ4_fixAfterDeletion 216 = .ok (.invokestatic 294, 3) := dk_184 1 38 (dk_at dksJ4_fixAfterDeletion_9 2 rfl rfl)
theorem dJ4_fixAfterDeletion_219 : decode cJ4_fixAfterDeletion 219 = .ok (.invokevirtual 314, 3) := dk_182 1 58 (dk_at dksJ4_fixAfterDeletion_9 5 rfl rfl)
theorem dJ4_fixAfterDeletion_222 : decode cJ4_fixAfterDeletion 222 = .ok (.aload_n 1, 1) := dk_43 (dk_at dksJ4_fixAfterDeletion_9 8 rfl rfl)
theorem dJ4_fixAfterDeletion_223 : decode cJ4_fixAfterDeletion 223 = .ok (.invokestatic 294, 3) := dk_184 1 38 (dk_at dksJ4_fixAfterDeletion_9 9 rfl rfl)
theorem dJ4_fixAfterDeletion_226 : decode cJ4_fixAfterDeletion 226 = .ok (.invokestatic 297, 3) := dk_184 1 41 (dk_at dksJ4_fixAfterDeletion_9 12 rfl rfl)
theorem dJ4_fixAfterDeletion_229 : decode cJ4_fixAfterDeletion 229 = .ok (.astore_n 2, 1) := dk_77 (dk_at dksJ4_fixAfterDeletion_9 15 rfl rfl)
theorem dJ4_fixAfterDeletion_230 : decode cJ4_fixAfterDeletion 230 = .ok (.aload_n 2, 1) := dk_44 (dk_at dksJ4_fixAfterDeletion_9 16 rfl rfl)
theorem dJ4_fixAfterDeletion_231 : decode cJ4_fixAfterDeletion 231 = .ok (.invokestatic 300, 3) := dk_184 1 44 (dk_at dksJ4_fixAfterDeletion_9 17 rfl rfl)
theorem dJ4_fixAfterDeletion_234 : decode cJ4_fixAfterDeletion 234 = .ok (.invokestatic 303, 3) := dk_184 1 47 (dk_at dksJ4_fixAfterDeletion_9 20 rfl rfl)
theorem dJ4_fixAfterDeletion_237 : decode cJ4_fixAfterDeletion 237 = .ok (.iconst 1, 1) := dk_4 (dk_at dksJ4_fixAfterDeletion_9 23 rfl rfl)
theorem dJ4_fixAfterDeletion_238 : decode cJ4_fixAfterDeletion 238 = .ok (.if_icmp .ne 27, 3) := dk_160 0 27 (dk_at dksJ4_fixAfterDeletion_10 0 rfl rfl)
theorem dJ4_fixAfterDeletion_241 : decode cJ4_fixAfterDeletion 241 = .ok (.aload_n 2, 1) := dk_44 (dk_at dksJ4_fixAfterDeletion_10 3 rfl rfl)
theorem dJ4_fixAfterDeletion_242 : decode cJ4_fixAfterDeletion 242 = .ok (.invokestatic 297, 3) := dk_184 1 41 (dk_at dksJ4_fixAfterDeletion_10 4 rfl rfl)
theorem dJ4_fixAfterDeletion_245 : decode cJ4_fixAfterDeletion 245 = .ok (.invokestatic 303, 3) := dk_184 1 47 (dk_at dksJ4_fixAfterDeletion_10 7 rfl rfl)
theorem dJ4_fixAfterDeletion_248 : decode cJ4_fixAfterDeletion 248 = .ok (.iconst 1, 1) := dk_4 (dk_at dksJ4_fixAfterDeletion_10 10 rfl rfl)
theorem dJ4_fixAfterDeletion_249 : decode cJ4_fixAfterDeletion 249 = .ok (.if_icmp .ne 16, 3) := dk_160 0 16 (dk_at dksJ4_fixAfterDeletion_10 11 rfl rfl)
theorem dJ4_fixAfterDeletion_252 : decode cJ4_fixAfterDeletion 252 = .ok (.aload_n 2, 1) := dk_44 (dk_at dksJ4_fixAfterDeletion_10 14 rfl rfl)
theorem dJ4_fixAfterDeletion_253 : decode cJ4_fixAfterDeletion 253 = .ok (.iconst 0, 1) := dk_3 (dk_at dksJ4_fixAfterDeletion_10 15 rfl rfl)
theorem dJ4_fixAfterDeletion_254 : decode cJ4_fixAfterDeletion 254 = .ok (.invokestatic 307, 3) := dk_184 1 51 (dk_at dksJ4_fixAfterDeletion_10 16 rfl rfl)
theorem dJ4_fixAfterDeletion_257 : decode cJ4_fixAfterDeletion 257 = .ok (.aload_n 1, 1) := dk_43 (dk_at dksJ4_fixAfterDeletion_10 19 rfl rfl)
theorem dJ4_fixAfterDeletion_258 : decode cJ4_fixAfterDeletion 258 = .ok (.invokestatic 294, 3) := dk_184 1 38 (dk_at dksJ4_fixAfterDeletion_10 20 rfl rfl)
theorem dJ4_fixAfterDeletion_261 : decode cJ4_fixAfterDeletion 261 = .ok (.astore_n 1, 1) := dk_76 (dk_at dksJ4_fixAfterDeletion_10 23 rfl rfl)
theorem dJ4_fixAfterDeletion_262 : decode cJ4_fixAfterDeletion 262 = .ok (.goto 80, 3) := dk_167 0 80 (dk_at dksJ4_fixAfterDeletion_11 0 rfl rfl)
theorem dJ4_fixAfterDeletion_265 : decode cJ4_fixAfterDeletion 265 = .ok (.aload_n 2, 1) := dk_44 (dk_at dksJ4_fixAfterDeletion_11 3 rfl rfl)
theorem dJ4_fixAfterDeletion_266 : decode cJ4_fixAfterDeletion 266 = .ok (.invokestatic 297, 3) := dk_184 1 41 (dk_at dksJ4_fixAfterDeletion_11 4 rfl rfl)
theorem dJ4_fixAfterDeletion_269 : decode cJ4_fixAfterDeletion 269 = .ok (.invokestatic 303, 3) := dk_184 1 47 (dk_at dksJ4_fixAfterDeletion_11 7 rfl rfl)
theorem dJ4_fixAfterDeletion_272 : decode cJ4_fixAfterDeletion 272 = .ok (.iconst 1, 1) := dk_4 (dk_at dksJ4_fixAfterDeletion_11 10 rfl rfl)
theorem dJ4_fixAfterDeletion_273 : decode cJ4_fixAfterDeletion 273 = .ok (.if_icmp .ne 29, 3) := dk_160 0 29 (dk_at dksJ4_fixAfterDeletion_11 11 rfl rfl)
theorem dJ4_fixAfterDeletion_276 : decode cJ4_fixAfterDeletion 276 = .ok (.aload_n 2, 1) := dk_44 (dk_at dksJ4_fixAfterDeletion_11 14 rfl rfl)
theorem dJ4_fixAfterDeletion_277 : decode cJ4_fixAfterDeletion 277 = .ok (.invokestatic 300, 3) := dk_184 1 44 (dk_at dksJ4_fixAfterDeletion_11 15 rfl rfl)
theorem dJ4_fixAfterDeletion_280 : decode cJ4_fixAfterDeletion 280 = .ok (.iconst 1, 1) := dk_4 (dk_at dksJ4_fixAfterDeletion_11 18 rfl rfl)
theorem dJ4_fixAfterDeletion_281 : decode cJ4_fixAfterDeletion 281 = .ok (.invokestatic 307, 3) := dk_184 1 51 (dk_at dksJ4_fixAfterDeletion_11 19 rfl rfl)
theorem dJ4_fixAfterDeletion_284 : decode cJ4_fixAfterDeletion 284 = .ok (.aload_n 2, 1) := dk_44 (dk_at dksJ4_fixAfterDeletion_11 22 rfl rfl)
theorem dJ4_fixAfterDeletion_285 : decode cJ4_fixAfterDeletion 285 = .ok (.iconst 0, 1) := dk_3 (dk_at dksJ4_fixAfterDeletion_11 23 rfl rfl)
theorem dJ4_fixAfterDeletion_286 : decode cJ4_fixAfterDeletion 286 = .ok (.invokestatic 307, 3) := dk_184 1 51 (dk_at dksJ4_fixAfterDeletion_12 0 rfl rfl)
theorem dJ4_fixAfterDeletion_289 : decode cJ4_fixAfterDeletion 289 = .ok (.aload_n 0, 1) := dk_42 (dk_at dksJ4_fixAfterDeletion_12 3 rfl rfl)
theorem dJ4_fixAfterDeletion_290 : decode cJ4_fixAfterDeletion 290 = .ok (.aload_n 2, 1) := dk_44 (dk_at dksJ4_fixAfterDeletion_12 4 rfl rfl)
theorem dJ4_fixAfterDeletion_291 : decode cJ4_fixAfterDeletion 291 = .ok (.invokevirtual 311, 3) := dk_182 1 55 (dk_at dksJ4_fixAfterDeletion_12 5 rfl rfl)
theorem dJ4_fixAfterDeletion_294 : decode cJ4_fixAfterDeletion 294 = .ok (.aload_n 1, 1) := dk_43 (dk_at dksJ4_fixAfterDeletion_12 8 rfl rfl)
theorem dJ4_fixAfterDeletion_295 : decode cJ4_fixAfterDeletion 295 = .ok (.invokestatic 294, 3) := dk_184 1 38 (dk_at dksJ4_fixAfterDeletion_12 9 rfl rfl)
theorem dJ4_fixAfterDeletion_298 : decode cJ4_fixAfterDeletion 298 = .ok (.invokestatic 297, 3) := dk_184 1 41 (dk_at dksJ4_fixAfterDeletion_12 12 rfl rfl)
theorem dJ4_fixAfterDeletion_301 : decode cJ4_fixAfterDeletion 301 = .ok (.astore_n 2, 1) := dk_77 (dk_at dksJ4_fixAfterDeletion_12 15 rfl rfl)
theorem dJ4_fixAfterDeletion_302 : decode cJ4_fixAfterDeletion 302 = .ok (.aload_n 2, 1) := dk_44 (dk_at dksJ4_fixAfterDeletion_12 16 rfl rfl)
theorem dJ4_fixAfterDeletion_303 : decode cJ4_fixAfterDeletion 303 = .ok (.aload_n 1, 1) := dk_43 (dk_at dksJ4_fixAfterDeletion_12 17 rfl rfl)
theorem dJ4_fixAfterDeletion_304 : decode cJ4_fixAfterDeletion 304 = .ok (.invokestatic 294, 3) := dk_184 1 38 (dk_at dksJ4_fixAfterDeletion_12 18 rfl rfl)
theorem dJ4_fixAfterDeletion_307 : decode cJ4_fixAfterDeletion 307 = .ok (.invokestatic 303, 3) := dk_184 1 47 (dk_at dksJ4_fixAfterDeletion_12 21 rfl rfl)
theorem dJ4_fixAfterDeletion_310 : decode cJ4_fixAfterDeletion 310 = .ok (.invokestatic 307, 3) := dk_184 1 51 (dk_at dksJ4_fixAfterDeletion_13 0 rfl rfl)
theorem dJ4_fixAfterDeletion_313 : decode cJ4_fixAfterDeletion 313 = .ok (.aload_n 1, 1) := dk_43 (dk_at dksJ4_fixAfterDeletion_13 3 rfl rfl)
theorem dJ4_fixAfterDeletion_314 : decode cJ4_fixAfterDeletion 314 = .ok (.invokestatic 294, 3) := dk_184 1 38 (dk_at dksJ4_fixAfterDeletion_13 4 rfl rfl)
theorem dJ4_fixAfterDeletion_317 : decode cJ4_fixAfterDeletion 317 = .ok (.iconst 1, 1) := dk_4 (dk_at dksJ4_fixAfterDeletion_13 7 rfl rfl)
theorem dJ4_fixAfterDeletion_318 : decode cJ4_fixAfterDeletion 318 = .ok (.invokestatic 307, 3) := dk_184 1 51 (dk_at dksJ4_fixAfterDeletion_13 8 rfl rfl)
theorem dJ4_fixAfterDeletion_321 : decode cJ4_fixAfterDeletion 321 = .ok (.aload_n 2, 1) := dk_44 (dk_at dksJ4_fixAfterDeletion_13 11 rfl rfl)
theorem dJ4_fixAfterDeletion_322 : decode cJ4_fixAfterDeletion 322 = .ok (.invokestatic 297, 3) := dk_184 1 41 (dk_at dksJ4_fixAfterDeletion_13 12 rfl rfl)
theorem dJ4_fixAfterDeletion_325 : decode cJ4_fixAfterDeletion 325 = .ok (.iconst 1, 1) := dk_4 (dk_at dksJ4_fixAfterDeletion_13 15 rfl rfl)
theorem dJ4_fixAfterDeletion_326 : decode cJ4_fixAfterDeletion 326 = .ok (.invokestatic 307, 3) := dk_184 1 51 (dk_at dksJ4_fixAfterDeletion_13 16 rfl rfl)
theorem dJ4_fixAfterDeletion_329 : decode cJ4_fixAfterDeletion 329 = .ok (.aload_n 0, 1) := dk_42 (dk_at dksJ4_fixAfterDeletion_13 19 rfl rfl)
theorem dJ4_fixAfterDeletion_330 : decode cJ4_fixAfterDeletion 330 = .ok (.aload_n 1, 1) := dk_43 (dk_at dksJ4_fixAfterDeletion_13 20 rfl rfl)
theorem dJ4_fixAfterDeletion_331 : decode cJ4_fixAfterDeletion 331 = .ok (.invokestatic 294, 3) := dk_184 1 38 (dk_at dksJ4_fixAfterDeletion_13 21 rfl rfl)
theorem dJ4_fixAfterDeletion_334 : decode cJ4_fixAfterDeletion 334 = .ok (.invokevirtual 314, 3) := dk_182 1 58 (dk_at dksJ4_fixAfterDeletion_14 0 rfl rfl)
theorem dJ4_fixAfterDeletion_337 : decode cJ4_fixAfterDeletion 337 = .ok (.aload_n 0, 1) := dk_42 (dk_at dksJ4_fixAfterDeletion_14 3 rfl rfl)
theorem dJ4_fixAfterDeletion_338 : decode cJ4_fixAfterDeletion 338 = .ok (.getfield 101, 3) := dk_180 0 101 (dk_at dksJ4_fixAfterDeletion_14 4 rfl rfl)
theorem dJ4_fixAfterDeletion_341 : decode cJ4_fixAfterDeletion 341 = .ok (.astore_n 1, 1) := dk_76 (dk_at dksJ4_fixAfterDeletion_14 7 rfl rfl)
theorem dJ4_fixAfterDeletion_342 : decode cJ4_fixAfterDeletion 342 = .ok (.goto (-342), 3) := dk_167 254 170 (dk_at dksJ4_fixAfterDeletion_14 8 rfl rfl)
theorem dJ4_fixAfterDeletion_345 : decode cJ4_fixAfterDeletion 345 = .ok (.aload_n 1, 1) := dk_43 (dk_at dksJ4_fixAfterDeletion_14 11 rfl rfl)
theorem dJ4_fixAfterDeletion_346 : decode cJ4_fixAfterDeletion 346 = .ok (.iconst 1, 1) := dk_4 (dk_at dksJ4_fixAfterDeletion_14 12 rfl rfl)
theorem dJ4_fixAfterDeletion_347 : decode cJ4_fixAfterDeletion 347 = .ok (.invokestatic 307, 3) := dk_184 1 51 (dk_at dksJ4_fixAfterDeletion_14 13 rfl rfl)
theorem dJ4_fixAfterDeletion_350 : decode cJ4_fixAfterDeletion 350 = .ok (.return_, 1) := dk_177 (dk_at dksJ4_fixAfterDeletion_14 16 rfl rfl)
abbrev cJ4_colorOf : ByteArray := prog_55_method_76_code
def yJ4_colorOf : MethodName := ⟨RJ4, "colorOf", "(Ljava/util/TreeMap$Entry;)Z"⟩
def dkwJ4_colorOf_0 : List UInt8 := [42, 199, 0, 7, 4, 167, 0, 7, 42, 180, 1, 34, 172]
abbrev dktJ4_colorOf_0 : List UInt8 := dkwJ4_colorOf_0 ++ []
theorem dksJ4_colorOf_0 : cJ4_colorOf.data.toList.drop 0 = dktJ4_colorOf_0 := by decide +kernel
theorem dJ4_colorOf_0 : decode cJ4_colorOf 0 = .ok (.aload_n 0, 1) := dk_42 (dk_at dksJ4_colorOf_0 0 rfl rfl)
theorem dJ4_colorOf_1 : decode cJ4_colorOf 1 = .ok (.ifnonnull 7, 3) := dk_199 0 7 (dk_at dksJ4_colorOf_0 1 rfl rfl)
theorem dJ4_colorOf_4 : decode cJ4_colorOf 4 = .ok (.iconst 1, 1) := dk_4 (dk_at dksJ4_colorOf_0 4 rfl rfl)
theorem dJ4_colorOf_5 : decode cJ4_colorOf 5 = .ok (.goto 7, 3) := dk_167 0 7 (dk_at dksJ4_colorOf_0 5 rfl rfl)
theorem dJ4_colorOf_8 : decode cJ4_colorOf 8 = .ok (.aload_n 0, 1) := dk_42 (dk_at dksJ4_colorOf_0 8 rfl rfl)
theorem dJ4_colorOf_9 : decode cJ4_colorOf 9 = .ok (.getfield 290, 3) := dk_180 1 34 (dk_at dksJ4_colorOf_0 9 rfl rfl)
theorem dJ4_colorOf_12 : decode cJ4_colorOf 12 = .ok (.ireturn, 1) := dk_172 (dk_at dksJ4_colorOf_0 12 rfl rfl)
abbrev cJ4_parentOf : ByteArray := prog_55_method_77_code
def yJ4_parentOf : MethodName := ⟨RJ4, "parentOf", "(Ljava/util/TreeMap$Entry;)Ljava/util/TreeMap$Entry;"⟩
def dkwJ4_parentOf_0 : List UInt8 := [42, 199, 0, 7, 1, 167, 0, 7, 42, 180, 0, 124, 176]
abbrev dktJ4_parentOf_0 : List UInt8 := dkwJ4_parentOf_0 ++ []
theorem dksJ4_parentOf_0 : cJ4_parentOf.data.toList.drop 0 = dktJ4_parentOf_0 := by decide +kernel
theorem dJ4_parentOf_0 : decode cJ4_parentOf 0 = .ok (.aload_n 0, 1) := dk_42 (dk_at dksJ4_parentOf_0 0 rfl rfl)
theorem dJ4_parentOf_1 : decode cJ4_parentOf 1 = .ok (.ifnonnull 7, 3) := dk_199 0 7 (dk_at dksJ4_parentOf_0 1 rfl rfl)
theorem dJ4_parentOf_4 : decode cJ4_parentOf 4 = .ok (.aconst_null, 1) := dk_1 (dk_at dksJ4_parentOf_0 4 rfl rfl)
theorem dJ4_parentOf_5 : decode cJ4_parentOf 5 = .ok (.goto 7, 3) := dk_167 0 7 (dk_at dksJ4_parentOf_0 5 rfl rfl)
theorem dJ4_parentOf_8 : decode cJ4_parentOf 8 = .ok (.aload_n 0, 1) := dk_42 (dk_at dksJ4_parentOf_0 8 rfl rfl)
theorem dJ4_parentOf_9 : decode cJ4_parentOf 9 = .ok (.getfield 124, 3) := dk_180 0 124 (dk_at dksJ4_parentOf_0 9 rfl rfl)
theorem dJ4_parentOf_12 : decode cJ4_parentOf 12 = .ok (.areturn, 1) := dk_176 (dk_at dksJ4_parentOf_0 12 rfl rfl)
abbrev cJ4_leftOf : ByteArray := prog_55_method_79_code
def yJ4_leftOf : MethodName := ⟨RJ4, "leftOf", "(Ljava/util/TreeMap$Entry;)Ljava/util/TreeMap$Entry;"⟩
def dkwJ4_leftOf_0 : List UInt8 := [42, 199, 0, 7, 1, 167, 0, 7, 42, 180, 0, 111, 176]
abbrev dktJ4_leftOf_0 : List UInt8 := dkwJ4_leftOf_0 ++ []
theorem dksJ4_leftOf_0 : cJ4_leftOf.data.toList.drop 0 = dktJ4_leftOf_0 := by decide +kernel
theorem dJ4_leftOf_0 : decode cJ4_leftOf 0 = .ok (.aload_n 0, 1) := dk_42 (dk_at dksJ4_leftOf_0 0 rfl rfl)
theorem dJ4_leftOf_1 : decode cJ4_leftOf 1 = .ok (.ifnonnull 7, 3) := dk_199 0 7 (dk_at dksJ4_leftOf_0 1 rfl rfl)
theorem dJ4_leftOf_4 : decode cJ4_leftOf 4 = .ok (.aconst_null, 1) := dk_1 (dk_at dksJ4_leftOf_0 4 rfl rfl)
theorem dJ4_leftOf_5 : decode cJ4_leftOf 5 = .ok (.goto 7, 3) := dk_167 0 7 (dk_at dksJ4_leftOf_0 5 rfl rfl)
theorem dJ4_leftOf_8 : decode cJ4_leftOf 8 = .ok (.aload_n 0, 1) := dk_42 (dk_at dksJ4_leftOf_0 8 rfl rfl)
theorem dJ4_leftOf_9 : decode cJ4_leftOf 9 = .ok (.getfield 111, 3) := dk_180 0 111 (dk_at dksJ4_leftOf_0 9 rfl rfl)
theorem dJ4_leftOf_12 : decode cJ4_leftOf 12 = .ok (.areturn, 1) := dk_176 (dk_at dksJ4_leftOf_0 12 rfl rfl)
abbrev cJ4_rightOf : ByteArray := prog_55_method_80_code
def yJ4_rightOf : MethodName := ⟨RJ4, "rightOf", "(Ljava/util/TreeMap$Entry;)Ljava/util/TreeMap$Entry;"⟩
def dkwJ4_rightOf_0 : List UInt8 := [42, 199, 0, 7, 1, 167, 0, 7, 42, 180, 0, 114, 176]
abbrev dktJ4_rightOf_0 : List UInt8 := dkwJ4_rightOf_0 ++ []
theorem dksJ4_rightOf_0 : cJ4_rightOf.data.toList.drop 0 = dktJ4_rightOf_0 := by decide +kernel
theorem dJ4_rightOf_0 : decode cJ4_rightOf 0 = .ok (.aload_n 0, 1) := dk_42 (dk_at dksJ4_rightOf_0 0 rfl rfl)
theorem dJ4_rightOf_1 : decode cJ4_rightOf 1 = .ok (.ifnonnull 7, 3) := dk_199 0 7 (dk_at dksJ4_rightOf_0 1 rfl rfl)
theorem dJ4_rightOf_4 : decode cJ4_rightOf 4 = .ok (.aconst_null, 1) := dk_1 (dk_at dksJ4_rightOf_0 4 rfl rfl)
theorem dJ4_rightOf_5 : decode cJ4_rightOf 5 = .ok (.goto 7, 3) := dk_167 0 7 (dk_at dksJ4_rightOf_0 5 rfl rfl)
theorem dJ4_rightOf_8 : decode cJ4_rightOf 8 = .ok (.aload_n 0, 1) := dk_42 (dk_at dksJ4_rightOf_0 8 rfl rfl)
theorem dJ4_rightOf_9 : decode cJ4_rightOf 9 = .ok (.getfield 114, 3) := dk_180 0 114 (dk_at dksJ4_rightOf_0 9 rfl rfl)
theorem dJ4_rightOf_12 : decode cJ4_rightOf 12 = .ok (.areturn, 1) := dk_176 (dk_at dksJ4_rightOf_0 12 rfl rfl)
abbrev cJ4_setColor : ByteArray := prog_55_method_78_code
def yJ4_setColor : MethodName := ⟨RJ4, "setColor", "(Ljava/util/TreeMap$Entry;Z)V"⟩
def dkwJ4_setColor_0 : List UInt8 := [42, 198, 0, 8, 42, 27, 181, 1, 34, 177]
abbrev dktJ4_setColor_0 : List UInt8 := dkwJ4_setColor_0 ++ []
theorem dksJ4_setColor_0 : cJ4_setColor.data.toList.drop 0 = dktJ4_setColor_0 := by decide +kernel
theorem dJ4_setColor_0 : decode cJ4_setColor 0 = .ok (.aload_n 0, 1) := dk_42 (dk_at dksJ4_setColor_0 0 rfl rfl)
theorem dJ4_setColor_1 : decode cJ4_setColor 1 = .ok (.ifnull 8, 3) := dk_198 0 8 (dk_at dksJ4_setColor_0 1 rfl rfl)
theorem dJ4_setColor_4 : decode cJ4_setColor 4 = .ok (.aload_n 0, 1) := dk_42 (dk_at dksJ4_setColor_0 4 rfl rfl)
theorem dJ4_setColor_5 : decode cJ4_setColor 5 = .ok (.iload_n 1, 1) := dk_27 (dk_at dksJ4_setColor_0 5 rfl rfl)
theorem dJ4_setColor_6 : decode cJ4_setColor 6 = .ok (.putfield 290, 3) := dk_181 1 34 (dk_at dksJ4_setColor_0 6 rfl rfl)
theorem dJ4_setColor_9 : decode cJ4_setColor 9 = .ok (.return_, 1) := dk_177 (dk_at dksJ4_setColor_0 9 rfl rfl)
abbrev cJ4_rotateLeft : ByteArray := prog_55_method_81_code
def yJ4_rotateLeft : MethodName := ⟨RJ4, "rotateLeft", "(Ljava/util/TreeMap$Entry;)V"⟩
def dkwJ4_rotateLeft_4 : List UInt8 := [177]
abbrev dktJ4_rotateLeft_4 : List UInt8 := dkwJ4_rotateLeft_4 ++ []
def dkwJ4_rotateLeft_3 : List UInt8 := [181, 0, 111, 167, 0, 11, 43, 180, 0, 124, 44, 181, 0, 114, 44, 43, 181, 0, 111, 43, 44, 181, 0, 124]
abbrev dktJ4_rotateLeft_3 : List UInt8 := dkwJ4_rotateLeft_3 ++ dktJ4_rotateLeft_4
def dkwJ4_rotateLeft_2 : List UInt8 := [44, 181, 0, 101, 167, 0, 33, 43, 180, 0, 124, 180, 0, 111, 43, 166, 0, 14, 43, 180, 0, 124, 44]
abbrev dktJ4_rotateLeft_2 : List UInt8 := dkwJ4_rotateLeft_2 ++ dktJ4_rotateLeft_3
def dkwJ4_rotateLeft_1 : List UInt8 := [44, 180, 0, 111, 43, 181, 0, 124, 44, 43, 180, 0, 124, 181, 0, 124, 43, 180, 0, 124, 199, 0, 11, 42]
abbrev dktJ4_rotateLeft_1 : List UInt8 := dkwJ4_rotateLeft_1 ++ dktJ4_rotateLeft_2
def dkwJ4_rotateLeft_0 : List UInt8 := [43, 198, 0, 94, 43, 180, 0, 114, 77, 43, 44, 180, 0, 111, 181, 0, 114, 44, 180, 0, 111, 198, 0, 11]
abbrev dktJ4_rotateLeft_0 : List UInt8 := dkwJ4_rotateLeft_0 ++ dktJ4_rotateLeft_1
theorem dksJ4_rotateLeft_0 : cJ4_rotateLeft.data.toList.drop 0 = dktJ4_rotateLeft_0 := by decide +kernel
theorem dksJ4_rotateLeft_1 : cJ4_rotateLeft.data.toList.drop 24 = dktJ4_rotateLeft_1 := dk_seg dksJ4_rotateLeft_0 24 rfl rfl
theorem dksJ4_rotateLeft_2 : cJ4_rotateLeft.data.toList.drop 48 = dktJ4_rotateLeft_2 := dk_seg dksJ4_rotateLeft_1 24 rfl rfl
theorem dksJ4_rotateLeft_3 : cJ4_rotateLeft.data.toList.drop 71 = dktJ4_rotateLeft_3 := dk_seg dksJ4_rotateLeft_2 23 rfl rfl
theorem dksJ4_rotateLeft_4 : cJ4_rotateLeft.data.toList.drop 95 = dktJ4_rotateLeft_4 := dk_seg dksJ4_rotateLeft_3 24 rfl rfl
theorem dJ4_rotateLeft_0 : decode cJ4_rotateLeft 0 = .ok (.aload_n 1, 1) := dk_43 (dk_at dksJ4_rotateLeft_0 0 rfl rfl)
theorem dJ4_rotateLeft_1 : decode cJ4_rotateLeft 1 = .ok (.ifnull 94, 3) := dk_198 0 94 (dk_at dksJ4_rotateLeft_0 1 rfl rfl)
theorem dJ4_rotateLeft_4 : decode cJ4_rotateLeft 4 = .ok (.aload_n 1, 1) := dk_43 (dk_at dksJ4_rotateLeft_0 4 rfl rfl)
theorem dJ4_rotateLeft_5 : decode cJ4_rotateLeft 5 = .ok (.getfield 114, 3) := dk_180 0 114 (dk_at dksJ4_rotateLeft_0 5 rfl rfl)
theorem dJ4_rotateLeft_8 : decode cJ4_rotateLeft 8 = .ok (.astore_n 2, 1) := dk_77 (dk_at dksJ4_rotateLeft_0 8 rfl rfl)
theorem dJ4_rotateLeft_9 : decode cJ4_rotateLeft 9 = .ok (.aload_n 1, 1) := dk_43 (dk_at dksJ4_rotateLeft_0 9 rfl rfl)
theorem dJ4_rotateLeft_10 : decode cJ4_rotateLeft 10 = .ok (.aload_n 2, 1) := dk_44 (dk_at dksJ4_rotateLeft_0 10 rfl rfl)
theorem dJ4_rotateLeft_11 : decode cJ4_rotateLeft 11 = .ok (.getfield 111, 3) := dk_180 0 111 (dk_at dksJ4_rotateLeft_0 11 rfl rfl)
theorem dJ4_rotateLeft_14 : decode cJ4_rotateLeft 14 = .ok (.putfield 114, 3) := dk_181 0 114 (dk_at dksJ4_rotateLeft_0 14 rfl rfl)
theorem dJ4_rotateLeft_17 : decode cJ4_rotateLeft 17 = .ok (.aload_n 2, 1) := dk_44 (dk_at dksJ4_rotateLeft_0 17 rfl rfl)
theorem dJ4_rotateLeft_18 : decode cJ4_rotateLeft 18 = .ok (.getfield 111, 3) := dk_180 0 111 (dk_at dksJ4_rotateLeft_0 18 rfl rfl)
theorem dJ4_rotateLeft_21 : decode cJ4_rotateLeft 21 = .ok (.ifnull 11, 3) := dk_198 0 11 (dk_at dksJ4_rotateLeft_0 21 rfl rfl)
theorem dJ4_rotateLeft_24 : decode cJ4_rotateLeft 24 = .ok (.aload_n 2, 1) := dk_44 (dk_at dksJ4_rotateLeft_1 0 rfl rfl)
theorem dJ4_rotateLeft_25 : decode cJ4_rotateLeft 25 = .ok (.getfield 111, 3) := dk_180 0 111 (dk_at dksJ4_rotateLeft_1 1 rfl rfl)
theorem dJ4_rotateLeft_28 : decode cJ4_rotateLeft 28 = .ok (.aload_n 1, 1) := dk_43 (dk_at dksJ4_rotateLeft_1 4 rfl rfl)
theorem dJ4_rotateLeft_29 : decode cJ4_rotateLeft 29 = .ok (.putfield 124, 3) := dk_181 0 124 (dk_at dksJ4_rotateLeft_1 5 rfl rfl)
theorem dJ4_rotateLeft_32 : decode cJ4_rotateLeft 32 = .ok (.aload_n 2, 1) := dk_44 (dk_at dksJ4_rotateLeft_1 8 rfl rfl)
theorem dJ4_rotateLeft_33 : decode cJ4_rotateLeft 33 = .ok (.aload_n 1, 1) := dk_43 (dk_at dksJ4_rotateLeft_1 9 rfl rfl)
theorem dJ4_rotateLeft_34 : decode cJ4_rotateLeft 34 = .ok (.getfield 124, 3) := dk_180 0 124 (dk_at dksJ4_rotateLeft_1 10 rfl rfl)
theorem dJ4_rotateLeft_37 : decode cJ4_rotateLeft 37 = .ok (.putfield 124, 3) := dk_181 0 124 (dk_at dksJ4_rotateLeft_1 13 rfl rfl)
theorem dJ4_rotateLeft_40 : decode cJ4_rotateLeft 40 = .ok (.aload_n 1, 1) := dk_43 (dk_at dksJ4_rotateLeft_1 16 rfl rfl)
theorem dJ4_rotateLeft_41 : decode cJ4_rotateLeft 41 = .ok (.getfield 124, 3) := dk_180 0 124 (dk_at dksJ4_rotateLeft_1 17 rfl rfl)
theorem dJ4_rotateLeft_44 : decode cJ4_rotateLeft 44 = .ok (.ifnonnull 11, 3) := dk_199 0 11 (dk_at dksJ4_rotateLeft_1 20 rfl rfl)
theorem dJ4_rotateLeft_47 : decode cJ4_rotateLeft 47 = .ok (.aload_n 0, 1) := dk_42 (dk_at dksJ4_rotateLeft_1 23 rfl rfl)
theorem dJ4_rotateLeft_48 : decode cJ4_rotateLeft 48 = .ok (.aload_n 2, 1) := dk_44 (dk_at dksJ4_rotateLeft_2 0 rfl rfl)
theorem dJ4_rotateLeft_49 : decode cJ4_rotateLeft 49 = .ok (.putfield 101, 3) := dk_181 0 101 (dk_at dksJ4_rotateLeft_2 1 rfl rfl)
theorem dJ4_rotateLeft_52 : decode cJ4_rotateLeft 52 = .ok (.goto 33, 3) := dk_167 0 33 (dk_at dksJ4_rotateLeft_2 4 rfl rfl)
theorem dJ4_rotateLeft_55 : decode cJ4_rotateLeft 55 = .ok (.aload_n 1, 1) := dk_43 (dk_at dksJ4_rotateLeft_2 7 rfl rfl)
theorem dJ4_rotateLeft_56 : decode cJ4_rotateLeft 56 = .ok (.getfield 124, 3) := dk_180 0 124 (dk_at dksJ4_rotateLeft_2 8 rfl rfl)
theorem dJ4_rotateLeft_59 : decode cJ4_rotateLeft 59 = .ok (.getfield 111, 3) := dk_180 0 111 (dk_at dksJ4_rotateLeft_2 11 rfl rfl)
theorem dJ4_rotateLeft_62 : decode cJ4_rotateLeft 62 = .ok (.aload_n 1, 1) := dk_43 (dk_at dksJ4_rotateLeft_2 14 rfl rfl)
theorem dJ4_rotateLeft_63 : decode cJ4_rotateLeft 63 = .ok (.if_acmp .ne 14, 3) := dk_166 0 14 (dk_at dksJ4_rotateLeft_2 15 rfl rfl)
theorem dJ4_rotateLeft_66 : decode cJ4_rotateLeft 66 = .ok (.aload_n 1, 1) := dk_43 (dk_at dksJ4_rotateLeft_2 18 rfl rfl)
theorem dJ4_rotateLeft_67 : decode cJ4_rotateLeft 67 = .ok (.getfield 124, 3) := dk_180 0 124 (dk_at dksJ4_rotateLeft_2 19 rfl rfl)
theorem dJ4_rotateLeft_70 : decode cJ4_rotateLeft 70 = .ok (.aload_n 2, 1) := dk_44 (dk_at dksJ4_rotateLeft_2 22 rfl rfl)
theorem dJ4_rotateLeft_71 : decode cJ4_rotateLeft 71 = .ok (.putfield 111, 3) := dk_181 0 111 (dk_at dksJ4_rotateLeft_3 0 rfl rfl)
theorem dJ4_rotateLeft_74 : decode cJ4_rotateLeft 74 = .ok (.goto 11, 3) := dk_167 0 11 (dk_at dksJ4_rotateLeft_3 3 rfl rfl)
theorem dJ4_rotateLeft_77 : decode cJ4_rotateLeft 77 = .ok (.aload_n 1, 1) := dk_43 (dk_at dksJ4_rotateLeft_3 6 rfl rfl)
theorem dJ4_rotateLeft_78 : decode cJ4_rotateLeft 78 = .ok (.getfield 124, 3) := dk_180 0 124 (dk_at dksJ4_rotateLeft_3 7 rfl rfl)
theorem dJ4_rotateLeft_81 : decode cJ4_rotateLeft 81 = .ok (.aload_n 2, 1) := dk_44 (dk_at dksJ4_rotateLeft_3 10 rfl rfl)
theorem dJ4_rotateLeft_82 : decode cJ4_rotateLeft 82 = .ok (.putfield 114, 3) := dk_181 0 114 (dk_at dksJ4_rotateLeft_3 11 rfl rfl)
theorem dJ4_rotateLeft_85 : decode cJ4_rotateLeft 85 = .ok (.aload_n 2, 1) := dk_44 (dk_at dksJ4_rotateLeft_3 14 rfl rfl)
theorem dJ4_rotateLeft_86 : decode cJ4_rotateLeft 86 = .ok (.aload_n 1, 1) := dk_43 (dk_at dksJ4_rotateLeft_3 15 rfl rfl)
theorem dJ4_rotateLeft_87 : decode cJ4_rotateLeft 87 = .ok (.putfield 111, 3) := dk_181 0 111 (dk_at dksJ4_rotateLeft_3 16 rfl rfl)
theorem dJ4_rotateLeft_90 : decode cJ4_rotateLeft 90 = .ok (.aload_n 1, 1) := dk_43 (dk_at dksJ4_rotateLeft_3 19 rfl rfl)
theorem dJ4_rotateLeft_91 : decode cJ4_rotateLeft 91 = .ok (.aload_n 2, 1) := dk_44 (dk_at dksJ4_rotateLeft_3 20 rfl rfl)
theorem dJ4_rotateLeft_92 : decode cJ4_rotateLeft 92 = .ok (.putfield 124, 3) := dk_181 0 124 (dk_at dksJ4_rotateLeft_3 21 rfl rfl)
theorem dJ4_rotateLeft_95 : decode cJ4_rotateLeft 95 = .ok (.return_, 1) := dk_177 (dk_at dksJ4_rotateLeft_4 0 rfl rfl)
abbrev cJ4_rotateRight : ByteArray := prog_55_method_82_code
def yJ4_rotateRight : MethodName := ⟨RJ4, "rotateRight", "(Ljava/util/TreeMap$Entry;)V"⟩
def dkwJ4_rotateRight_4 : List UInt8 := [177]
abbrev dktJ4_rotateRight_4 : List UInt8 := dkwJ4_rotateRight_4 ++ []
def dkwJ4_rotateRight_3 : List UInt8 := [181, 0, 114, 167, 0, 11, 43, 180, 0, 124, 44, 181, 0, 111, 44, 43, 181, 0, 114, 43, 44, 181, 0, 124]
abbrev dktJ4_rotateRight_3 : List UInt8 := dkwJ4_rotateRight_3 ++ dktJ4_rotateRight_4
def dkwJ4_rotateRight_2 : List UInt8 := [44, 181, 0, 101, 167, 0, 33, 43, 180, 0, 124, 180, 0, 114, 43, 166, 0, 14, 43, 180, 0, 124, 44]
abbrev dktJ4_rotateRight_2 : List UInt8 := dkwJ4_rotateRight_2 ++ dktJ4_rotateRight_3
def dkwJ4_rotateRight_1 : List UInt8 := [44, 180, 0, 114, 43, 181, 0, 124, 44, 43, 180, 0, 124, 181, 0, 124, 43, 180, 0, 124, 199, 0, 11, 42]
abbrev dktJ4_rotateRight_1 : List UInt8 := dkwJ4_rotateRight_1 ++ dktJ4_rotateRight_2
def dkwJ4_rotateRight_0 : List UInt8 := [43, 198, 0, 94, 43, 180, 0, 111, 77, 43, 44, 180, 0, 114, 181, 0, 111, 44, 180, 0, 114, 198, 0, 11]
abbrev dktJ4_rotateRight_0 : List UInt8 := dkwJ4_rotateRight_0 ++ dktJ4_rotateRight_1
theorem dksJ4_rotateRight_0 : cJ4_rotateRight.data.toList.drop 0 = dktJ4_rotateRight_0 := by decide +kernel
theorem dksJ4_rotateRight_1 : cJ4_rotateRight.data.toList.drop 24 = dktJ4_rotateRight_1 := dk_seg dksJ4_rotateRight_0 24 rfl rfl
theorem dksJ4_rotateRight_2 : cJ4_rotateRight.data.toList.drop 48 = dktJ4_rotateRight_2 := dk_seg dksJ4_rotateRight_1 24 rfl rfl
theorem dksJ4_rotateRight_3 : cJ4_rotateRight.data.toList.drop 71 = dktJ4_rotateRight_3 := dk_seg dksJ4_rotateRight_2 23 rfl rfl
theorem dksJ4_rotateRight_4 : cJ4_rotateRight.data.toList.drop 95 = dktJ4_rotateRight_4 := dk_seg dksJ4_rotateRight_3 24 rfl rfl
theorem dJ4_rotateRight_0 : decode cJ4_rotateRight 0 = .ok (.aload_n 1, 1) := dk_43 (dk_at dksJ4_rotateRight_0 0 rfl rfl)
theorem dJ4_rotateRight_1 : decode cJ4_rotateRight 1 = .ok (.ifnull 94, 3) := dk_198 0 94 (dk_at dksJ4_rotateRight_0 1 rfl rfl)
theorem dJ4_rotateRight_4 : decode cJ4_rotateRight 4 = .ok (.aload_n 1, 1) := dk_43 (dk_at dksJ4_rotateRight_0 4 rfl rfl)
theorem dJ4_rotateRight_5 : decode cJ4_rotateRight 5 = .ok (.getfield 111, 3) := dk_180 0 111 (dk_at dksJ4_rotateRight_0 5 rfl rfl)
theorem dJ4_rotateRight_8 : decode cJ4_rotateRight 8 = .ok (.astore_n 2, 1) := dk_77 (dk_at dksJ4_rotateRight_0 8 rfl rfl)
theorem dJ4_rotateRight_9 : decode cJ4_rotateRight 9 = .ok (.aload_n 1, 1) := dk_43 (dk_at dksJ4_rotateRight_0 9 rfl rfl)
theorem dJ4_rotateRight_10 : decode cJ4_rotateRight 10 = .ok (.aload_n 2, 1) := dk_44 (dk_at dksJ4_rotateRight_0 10 rfl rfl)
theorem dJ4_rotateRight_11 : decode cJ4_rotateRight 11 = .ok (.getfield 114, 3) := dk_180 0 114 (dk_at dksJ4_rotateRight_0 11 rfl rfl)
theorem dJ4_rotateRight_14 : decode cJ4_rotateRight 14 = .ok (.putfield 111, 3) := dk_181 0 111 (dk_at dksJ4_rotateRight_0 14 rfl rfl)
theorem dJ4_rotateRight_17 : decode cJ4_rotateRight 17 = .ok (.aload_n 2, 1) := dk_44 (dk_at dksJ4_rotateRight_0 17 rfl rfl)
theorem dJ4_rotateRight_18 : decode cJ4_rotateRight 18 = .ok (.getfield 114, 3) := dk_180 0 114 (dk_at dksJ4_rotateRight_0 18 rfl rfl)
theorem dJ4_rotateRight_21 : decode cJ4_rotateRight 21 = .ok (.ifnull 11, 3) := dk_198 0 11 (dk_at dksJ4_rotateRight_0 21 rfl rfl)
theorem dJ4_rotateRight_24 : decode cJ4_rotateRight 24 = .ok (.aload_n 2, 1) := dk_44 (dk_at dksJ4_rotateRight_1 0 rfl rfl)
theorem dJ4_rotateRight_25 : decode cJ4_rotateRight 25 = .ok (.getfield 114, 3) := dk_180 0 114 (dk_at dksJ4_rotateRight_1 1 rfl rfl)
theorem dJ4_rotateRight_28 : decode cJ4_rotateRight 28 = .ok (.aload_n 1, 1) := dk_43 (dk_at dksJ4_rotateRight_1 4 rfl rfl)
theorem dJ4_rotateRight_29 : decode cJ4_rotateRight 29 = .ok (.putfield 124, 3) := dk_181 0 124 (dk_at dksJ4_rotateRight_1 5 rfl rfl)
theorem dJ4_rotateRight_32 : decode cJ4_rotateRight 32 = .ok (.aload_n 2, 1) := dk_44 (dk_at dksJ4_rotateRight_1 8 rfl rfl)
theorem dJ4_rotateRight_33 : decode cJ4_rotateRight 33 = .ok (.aload_n 1, 1) := dk_43 (dk_at dksJ4_rotateRight_1 9 rfl rfl)
theorem dJ4_rotateRight_34 : decode cJ4_rotateRight 34 = .ok (.getfield 124, 3) := dk_180 0 124 (dk_at dksJ4_rotateRight_1 10 rfl rfl)
theorem dJ4_rotateRight_37 : decode cJ4_rotateRight 37 = .ok (.putfield 124, 3) := dk_181 0 124 (dk_at dksJ4_rotateRight_1 13 rfl rfl)
theorem dJ4_rotateRight_40 : decode cJ4_rotateRight 40 = .ok (.aload_n 1, 1) := dk_43 (dk_at dksJ4_rotateRight_1 16 rfl rfl)
theorem dJ4_rotateRight_41 : decode cJ4_rotateRight 41 = .ok (.getfield 124, 3) := dk_180 0 124 (dk_at dksJ4_rotateRight_1 17 rfl rfl)
theorem dJ4_rotateRight_44 : decode cJ4_rotateRight 44 = .ok (.ifnonnull 11, 3) := dk_199 0 11 (dk_at dksJ4_rotateRight_1 20 rfl rfl)
theorem dJ4_rotateRight_47 : decode cJ4_rotateRight 47 = .ok (.aload_n 0, 1) := dk_42 (dk_at dksJ4_rotateRight_1 23 rfl rfl)
theorem dJ4_rotateRight_48 : decode cJ4_rotateRight 48 = .ok (.aload_n 2, 1) := dk_44 (dk_at dksJ4_rotateRight_2 0 rfl rfl)
theorem dJ4_rotateRight_49 : decode cJ4_rotateRight 49 = .ok (.putfield 101, 3) := dk_181 0 101 (dk_at dksJ4_rotateRight_2 1 rfl rfl)
theorem dJ4_rotateRight_52 : decode cJ4_rotateRight 52 = .ok (.goto 33, 3) := dk_167 0 33 (dk_at dksJ4_rotateRight_2 4 rfl rfl)
theorem dJ4_rotateRight_55 : decode cJ4_rotateRight 55 = .ok (.aload_n 1, 1) := dk_43 (dk_at dksJ4_rotateRight_2 7 rfl rfl)
theorem dJ4_rotateRight_56 : decode cJ4_rotateRight 56 = .ok (.getfield 124, 3) := dk_180 0 124 (dk_at dksJ4_rotateRight_2 8 rfl rfl)
theorem dJ4_rotateRight_59 : decode cJ4_rotateRight 59 = .ok (.getfield 114, 3) := dk_180 0 114 (dk_at dksJ4_rotateRight_2 11 rfl rfl)
theorem dJ4_rotateRight_62 : decode cJ4_rotateRight 62 = .ok (.aload_n 1, 1) := dk_43 (dk_at dksJ4_rotateRight_2 14 rfl rfl)
theorem dJ4_rotateRight_63 : decode cJ4_rotateRight 63 = .ok (.if_acmp .ne 14, 3) := dk_166 0 14 (dk_at dksJ4_rotateRight_2 15 rfl rfl)
theorem dJ4_rotateRight_66 : decode cJ4_rotateRight 66 = .ok (.aload_n 1, 1) := dk_43 (dk_at dksJ4_rotateRight_2 18 rfl rfl)
theorem dJ4_rotateRight_67 : decode cJ4_rotateRight 67 = .ok (.getfield 124, 3) := dk_180 0 124 (dk_at dksJ4_rotateRight_2 19 rfl rfl)
theorem dJ4_rotateRight_70 : decode cJ4_rotateRight 70 = .ok (.aload_n 2, 1) := dk_44 (dk_at dksJ4_rotateRight_2 22 rfl rfl)
theorem dJ4_rotateRight_71 : decode cJ4_rotateRight 71 = .ok (.putfield 114, 3) := dk_181 0 114 (dk_at dksJ4_rotateRight_3 0 rfl rfl)
theorem dJ4_rotateRight_74 : decode cJ4_rotateRight 74 = .ok (.goto 11, 3) := dk_167 0 11 (dk_at dksJ4_rotateRight_3 3 rfl rfl)
theorem dJ4_rotateRight_77 : decode cJ4_rotateRight 77 = .ok (.aload_n 1, 1) := dk_43 (dk_at dksJ4_rotateRight_3 6 rfl rfl)
theorem dJ4_rotateRight_78 : decode cJ4_rotateRight 78 = .ok (.getfield 124, 3) := dk_180 0 124 (dk_at dksJ4_rotateRight_3 7 rfl rfl)
theorem dJ4_rotateRight_81 : decode cJ4_rotateRight 81 = .ok (.aload_n 2, 1) := dk_44 (dk_at dksJ4_rotateRight_3 10 rfl rfl)
theorem dJ4_rotateRight_82 : decode cJ4_rotateRight 82 = .ok (.putfield 111, 3) := dk_181 0 111 (dk_at dksJ4_rotateRight_3 11 rfl rfl)
theorem dJ4_rotateRight_85 : decode cJ4_rotateRight 85 = .ok (.aload_n 2, 1) := dk_44 (dk_at dksJ4_rotateRight_3 14 rfl rfl)
theorem dJ4_rotateRight_86 : decode cJ4_rotateRight 86 = .ok (.aload_n 1, 1) := dk_43 (dk_at dksJ4_rotateRight_3 15 rfl rfl)
theorem dJ4_rotateRight_87 : decode cJ4_rotateRight 87 = .ok (.putfield 114, 3) := dk_181 0 114 (dk_at dksJ4_rotateRight_3 16 rfl rfl)
theorem dJ4_rotateRight_90 : decode cJ4_rotateRight 90 = .ok (.aload_n 1, 1) := dk_43 (dk_at dksJ4_rotateRight_3 19 rfl rfl)
theorem dJ4_rotateRight_91 : decode cJ4_rotateRight 91 = .ok (.aload_n 2, 1) := dk_44 (dk_at dksJ4_rotateRight_3 20 rfl rfl)
theorem dJ4_rotateRight_92 : decode cJ4_rotateRight 92 = .ok (.putfield 124, 3) := dk_181 0 124 (dk_at dksJ4_rotateRight_3 21 rfl rfl)
theorem dJ4_rotateRight_95 : decode cJ4_rotateRight 95 = .ok (.return_, 1) := dk_177 (dk_at dksJ4_rotateRight_4 0 rfl rfl)
abbrev cJ4_size : ByteArray := prog_55_method_5_code
def yJ4_size : MethodName := ⟨RJ4, "size", "()I"⟩
theorem dJ4_size_0 : decode cJ4_size 0 = .ok (.aload_n 0, 1) := by decide +kernel
theorem dJ4_size_1 : decode cJ4_size 1 = .ok (.getfield 7, 3) := by decide +kernel
theorem dJ4_size_4 : decode cJ4_size 4 = .ok (.ireturn, 1) := by decide +kernel
abbrev cJ4_get : ByteArray := prog_55_method_8_code
def yJ4_get : MethodName := ⟨RJ4, "get", "(Ljava/lang/Object;)Ljava/lang/Object;"⟩
def dkwJ4_get_0 : List UInt8 := [42, 43, 182, 0, 50, 77, 44, 199, 0, 7, 1, 167, 0, 7, 44, 180, 0, 58, 176]
abbrev dktJ4_get_0 : List UInt8 := dkwJ4_get_0 ++ []
theorem dksJ4_get_0 : cJ4_get.data.toList.drop 0 = dktJ4_get_0 := by decide +kernel
theorem dJ4_get_0 : decode cJ4_get 0 = .ok (.aload_n 0, 1) := dk_42 (dk_at dksJ4_get_0 0 rfl rfl)
theorem dJ4_get_1 : decode cJ4_get 1 = .ok (.aload_n 1, 1) := dk_43 (dk_at dksJ4_get_0 1 rfl rfl)
theorem dJ4_get_2 : decode cJ4_get 2 = .ok (.invokevirtual 50, 3) := dk_182 0 50 (dk_at dksJ4_get_0 2 rfl rfl)
theorem dJ4_get_5 : decode cJ4_get 5 = .ok (.astore_n 2, 1) := dk_77 (dk_at dksJ4_get_0 5 rfl rfl)
theorem dJ4_get_6 : decode cJ4_get 6 = .ok (.aload_n 2, 1) := dk_44 (dk_at dksJ4_get_0 6 rfl rfl)
theorem dJ4_get_7 : decode cJ4_get 7 = .ok (.ifnonnull 7, 3) := dk_199 0 7 (dk_at dksJ4_get_0 7 rfl rfl)
theorem dJ4_get_10 : decode cJ4_get 10 = .ok (.aconst_null, 1) := dk_1 (dk_at dksJ4_get_0 10 rfl rfl)
theorem dJ4_get_11 : decode cJ4_get 11 = .ok (.goto 7, 3) := dk_167 0 7 (dk_at dksJ4_get_0 11 rfl rfl)
theorem dJ4_get_14 : decode cJ4_get 14 = .ok (.aload_n 2, 1) := dk_44 (dk_at dksJ4_get_0 14 rfl rfl)
theorem dJ4_get_15 : decode cJ4_get 15 = .ok (.getfield 58, 3) := dk_180 0 58 (dk_at dksJ4_get_0 15 rfl rfl)
theorem dJ4_get_18 : decode cJ4_get 18 = .ok (.areturn, 1) := dk_176 (dk_at dksJ4_get_0 18 rfl rfl)
abbrev cJ4_put : ByteArray := prog_55_method_21_code
def yJ4_put : MethodName := ⟨RJ4, "put", "(Ljava/lang/Object;Ljava/lang/Object;)Ljava/lang/Object;"⟩
def dkwJ4_put_0 : List UInt8 := [42, 43, 44, 4, 182, 0, 127, 176]
abbrev dktJ4_put_0 : List UInt8 := dkwJ4_put_0 ++ []
theorem dksJ4_put_0 : cJ4_put.data.toList.drop 0 = dktJ4_put_0 := by decide +kernel
theorem dJ4_put_0 : decode cJ4_put 0 = .ok (.aload_n 0, 1) := dk_42 (dk_at dksJ4_put_0 0 rfl rfl)
theorem dJ4_put_1 : decode cJ4_put 1 = .ok (.aload_n 1, 1) := dk_43 (dk_at dksJ4_put_0 1 rfl rfl)
theorem dJ4_put_2 : decode cJ4_put 2 = .ok (.aload_n 2, 1) := dk_44 (dk_at dksJ4_put_0 2 rfl rfl)
theorem dJ4_put_3 : decode cJ4_put 3 = .ok (.iconst 1, 1) := dk_4 (dk_at dksJ4_put_0 3 rfl rfl)
theorem dJ4_put_4 : decode cJ4_put 4 = .ok (.invokevirtual 127, 3) := dk_182 0 127 (dk_at dksJ4_put_0 4 rfl rfl)
theorem dJ4_put_7 : decode cJ4_put 7 = .ok (.areturn, 1) := dk_176 (dk_at dksJ4_put_0 7 rfl rfl)
abbrev cJ4_put_2 : ByteArray := prog_55_method_31_code
def yJ4_put_2 : MethodName := ⟨RJ4, "put", "(Ljava/lang/Object;Ljava/lang/Object;Z)Ljava/lang/Object;"⟩
def dkwJ4_put_2_9 : List UInt8 := [4, 167, 0, 4, 3, 182, 0, 139, 1, 176]
abbrev dktJ4_put_2_9 : List UInt8 := dkwJ4_put_2_9 ++ []
def dkwJ4_put_2_8 : List UInt8 := [25, 4, 44, 181, 0, 58, 25, 9, 176, 25, 4, 199, 255, 181, 42, 43, 44, 25, 6, 21, 5, 156, 0, 7]
abbrev dktJ4_put_2_8 : List UInt8 := dkwJ4_put_2_8 ++ dktJ4_put_2_9
def dkwJ4_put_2_7 : List UInt8 := [180, 0, 114, 58, 4, 167, 0, 28, 25, 4, 180, 0, 58, 58, 9, 29, 154, 0, 8, 25, 9, 199, 0, 9]
abbrev dktJ4_put_2_7 : List UInt8 := dkwJ4_put_2_7 ++ dktJ4_put_2_8
def dkwJ4_put_2_6 : List UInt8 := [21, 5, 156, 0, 13, 25, 4, 180, 0, 111, 58, 4, 167, 0, 43, 21, 5, 158, 0, 13, 25, 4]
abbrev dktJ4_put_2_6 : List UInt8 := dkwJ4_put_2_6 ++ dktJ4_put_2_7
def dkwJ4_put_2_5 : List UInt8 := [192, 0, 99, 58, 8, 25, 4, 58, 6, 25, 8, 25, 4, 180, 0, 105, 185, 0, 107, 2, 0, 54, 5]
abbrev dktJ4_put_2_5 : List UInt8 := dkwJ4_put_2_5 ++ dktJ4_put_2_6
def dkwJ4_put_2_4 : List UInt8 := [25, 4, 44, 181, 0, 58, 25, 8, 176, 25, 4, 199, 255, 180, 167, 0, 92, 43, 184, 0, 95, 87, 43]
abbrev dktJ4_put_2_4 : List UInt8 := dkwJ4_put_2_4 ++ dktJ4_put_2_5
def dkwJ4_put_2_3 : List UInt8 := [180, 0, 114, 58, 4, 167, 0, 28, 25, 4, 180, 0, 58, 58, 8, 29, 154, 0, 8, 25, 8, 199, 0, 9]
abbrev dktJ4_put_2_3 : List UInt8 := dkwJ4_put_2_3 ++ dktJ4_put_2_4
def dkwJ4_put_2_2 : List UInt8 := [54, 5, 21, 5, 156, 0, 13, 25, 4, 180, 0, 111, 58, 4, 167, 0, 43, 21, 5, 158, 0, 13, 25, 4]
abbrev dktJ4_put_2_2 : List UInt8 := dkwJ4_put_2_2 ++ dktJ4_put_2_3
def dkwJ4_put_2_1 : List UInt8 := [58, 7, 25, 7, 198, 0, 85, 25, 4, 58, 6, 25, 7, 43, 25, 4, 180, 0, 105, 185, 0, 117, 3, 0]
abbrev dktJ4_put_2_1 : List UInt8 := dkwJ4_put_2_1 ++ dktJ4_put_2_2
def dkwJ4_put_2_0 : List UInt8 := [42, 180, 0, 101, 58, 4, 25, 4, 199, 0, 11, 42, 43, 44, 182, 0, 135, 1, 176, 42, 180, 0, 16]
abbrev dktJ4_put_2_0 : List UInt8 := dkwJ4_put_2_0 ++ dktJ4_put_2_1
theorem dksJ4_put_2_0 : cJ4_put_2.data.toList.drop 0 = dktJ4_put_2_0 := by decide +kernel
theorem dksJ4_put_2_1 : cJ4_put_2.data.toList.drop 23 = dktJ4_put_2_1 := dk_seg dksJ4_put_2_0 23 rfl rfl
theorem dksJ4_put_2_2 : cJ4_put_2.data.toList.drop 47 = dktJ4_put_2_2 := dk_seg dksJ4_put_2_1 24 rfl rfl
theorem dksJ4_put_2_3 : cJ4_put_2.data.toList.drop 71 = dktJ4_put_2_3 := dk_seg dksJ4_put_2_2 24 rfl rfl
theorem dksJ4_put_2_4 : cJ4_put_2.data.toList.drop 95 = dktJ4_put_2_4 := dk_seg dksJ4_put_2_3 24 rfl rfl
theorem dksJ4_put_2_5 : cJ4_put_2.data.toList.drop 118 = dktJ4_put_2_5 := dk_seg dksJ4_put_2_4 23 rfl rfl
theorem dksJ4_put_2_6 : cJ4_put_2.data.toList.drop 141 = dktJ4_put_2_6 := dk_seg dksJ4_put_2_5 23 rfl rfl
theorem dksJ4_put_2_7 : cJ4_put_2.data.toList.drop 163 = dktJ4_put_2_7 := dk_seg dksJ4_put_2_6 22 rfl rfl
theorem dksJ4_put_2_8 : cJ4_put_2.data.toList.drop 187 = dktJ4_put_2_8 := dk_seg dksJ4_put_2_7 24 rfl rfl
theorem dksJ4_put_2_9 : cJ4_put_2.data.toList.drop 211 = dktJ4_put_2_9 := dk_seg dksJ4_put_2_8 24 rfl rfl
theorem dJ4_put_2_0 : decode cJ4_put_2 0 = .ok (.aload_n 0, 1) := dk_42 (dk_at dksJ4_put_2_0 0 rfl rfl)
theorem dJ4_put_2_1 : decode cJ4_put_2 1 = .ok (.getfield 101, 3) := dk_180 0 101 (dk_at dksJ4_put_2_0 1 rfl rfl)
theorem dJ4_put_2_4 : decode cJ4_put_2 4 = .ok (.astore 4, 2) := dk_58 4 (dk_at dksJ4_put_2_0 4 rfl rfl)
theorem dJ4_put_2_6 : decode cJ4_put_2 6 = .ok (.aload 4, 2) := dk_25 4 (dk_at dksJ4_put_2_0 6 rfl rfl)
theorem dJ4_put_2_8 : decode cJ4_put_2 8 = .ok (.ifnonnull 11, 3) := dk_199 0 11 (dk_at dksJ4_put_2_0 8 rfl rfl)
theorem dJ4_put_2_11 : decode cJ4_put_2 11 = .ok (.aload_n 0, 1) := dk_42 (dk_at dksJ4_put_2_0 11 rfl rfl)
theorem dJ4_put_2_12 : decode cJ4_put_2 12 = .ok (.aload_n 1, 1) := dk_43 (dk_at dksJ4_put_2_0 12 rfl rfl)
theorem dJ4_put_2_13 : decode cJ4_put_2 13 = .ok (.aload_n 2, 1) := dk_44 (dk_at dksJ4_put_2_0 13 rfl rfl)
theorem dJ4_put_2_14 : decode cJ4_put_2 14 = .ok (.invokevirtual 135, 3) := dk_182 0 135 (dk_at dksJ4_put_2_0 14 rfl rfl)
theorem dJ4_put_2_17 : decode cJ4_put_2 17 = .ok (.aconst_null, 1) := dk_1 (dk_at dksJ4_put_2_0 17 rfl rfl)
theorem dJ4_put_2_18 : decode cJ4_put_2 18 = .ok (.areturn, 1) := dk_176 (dk_at dksJ4_put_2_0 18 rfl rfl)
theorem dJ4_put_2_19 : decode cJ4_put_2 19 = .ok (.aload_n 0, 1) := dk_42 (dk_at dksJ4_put_2_0 19 rfl rfl)
theorem dJ4_put_2_20 : decode cJ4_put_2 20 = .ok (.getfield 16, 3) := dk_180 0 16 (dk_at dksJ4_put_2_0 20 rfl rfl)
theorem dJ4_put_2_23 : decode cJ4_put_2 23 = .ok (.astore 7, 2) := dk_58 7 (dk_at dksJ4_put_2_1 0 rfl rfl)
theorem dJ4_put_2_25 : decode cJ4_put_2 25 = .ok (.aload 7, 2) := dk_25 7 (dk_at dksJ4_put_2_1 2 rfl rfl)
theorem dJ4_put_2_27 : decode cJ4_put_2 27 = .ok (.ifnull 85, 3) := dk_198 0 85 (dk_at dksJ4_put_2_1 4 rfl rfl)
theorem dJ4_put_2_30 : decode cJ4_put_2 30 = .ok (.aload 4, 2) := dk_25 4 (dk_at dksJ4_put_2_1 7 rfl rfl)
theorem dJ4_put_2_32 : decode cJ4_put_2 32 = .ok (.astore 6, 2) := dk_58 6 (dk_at dksJ4_put_2_1 9 rfl rfl)
theorem dJ4_put_2_34 : decode cJ4_put_2 34 = .ok (.aload 7, 2) := dk_25 7 (dk_at dksJ4_put_2_1 11 rfl rfl)
theorem dJ4_put_2_36 : decode cJ4_put_2 36 = .ok (.aload_n 1, 1) := dk_43 (dk_at dksJ4_put_2_1 13 rfl rfl)
theorem dJ4_put_2_37 : decode cJ4_put_2 37 = .ok (.aload 4, 2) := dk_25 4 (dk_at dksJ4_put_2_1 14 rfl rfl)
theorem dJ4_put_2_39 : decode cJ4_put_2 39 = .ok (.getfield 105, 3) := dk_180 0 105 (dk_at dksJ4_put_2_1 16 rfl rfl)
theorem dJ4_put_2_42 : decode cJ4_put_2 42 = .ok (.invokeinterface 117 3, 5) := by decide +kernel
theorem dJ4_put_2_47 : decode cJ4_put_2 47 = .ok (.istore 5, 2) := dk_54 5 (dk_at dksJ4_put_2_2 0 rfl rfl)
theorem dJ4_put_2_49 : decode cJ4_put_2 49 = .ok (.iload 5, 2) := dk_21 5 (dk_at dksJ4_put_2_2 2 rfl rfl)
theorem dJ4_put_2_51 : decode cJ4_put_2 51 = .ok (.ifCond .ge 13, 3) := dk_156 0 13 (dk_at dksJ4_put_2_2 4 rfl rfl)
theorem dJ4_put_2_54 : decode cJ4_put_2 54 = .ok (.aload 4, 2) := dk_25 4 (dk_at dksJ4_put_2_2 7 rfl rfl)
theorem dJ4_put_2_56 : decode cJ4_put_2 56 = .ok (.getfield 111, 3) := dk_180 0 111 (dk_at dksJ4_put_2_2 9 rfl rfl)
theorem dJ4_put_2_59 : decode cJ4_put_2 59 = .ok (.astore 4, 2) := dk_58 4 (dk_at dksJ4_put_2_2 12 rfl rfl)
theorem dJ4_put_2_61 : decode cJ4_put_2 61 = .ok (.goto 43, 3) := dk_167 0 43 (dk_at dksJ4_put_2_2 14 rfl rfl)
theorem dJ4_put_2_64 : decode cJ4_put_2 64 = .ok (.iload 5, 2) := dk_21 5 (dk_at dksJ4_put_2_2 17 rfl rfl)
theorem dJ4_put_2_66 : decode cJ4_put_2 66 = .ok (.ifCond .le 13, 3) := dk_158 0 13 (dk_at dksJ4_put_2_2 19 rfl rfl)
theorem dJ4_put_2_69 : decode cJ4_put_2 69 = .ok (.aload 4, 2) := dk_25 4 (dk_at dksJ4_put_2_2 22 rfl rfl)
theorem dJ4_put_2_71 : decode cJ4_put_2 71 = .ok (.getfield 114, 3) := dk_180 0 114 (dk_at dksJ4_put_2_3 0 rfl rfl)
theorem dJ4_put_2_74 : decode cJ4_put_2 74 = .ok (.astore 4, 2) := dk_58 4 (dk_at dksJ4_put_2_3 3 rfl rfl)
theorem dJ4_put_2_76 : decode cJ4_put_2 76 = .ok (.goto 28, 3) := dk_167 0 28 (dk_at dksJ4_put_2_3 5 rfl rfl)
theorem dJ4_put_2_79 : decode cJ4_put_2 79 = .ok (.aload 4, 2) := dk_25 4 (dk_at dksJ4_put_2_3 8 rfl rfl)
theorem dJ4_put_2_81 : decode cJ4_put_2 81 = .ok (.getfield 58, 3) := dk_180 0 58 (dk_at dksJ4_put_2_3 10 rfl rfl)
theorem dJ4_put_2_84 : decode cJ4_put_2 84 = .ok (.astore 8, 2) := dk_58 8 (dk_at dksJ4_put_2_3 13 rfl rfl)
theorem dJ4_put_2_86 : decode cJ4_put_2 86 = .ok (.iload_n 3, 1) := dk_29 (dk_at dksJ4_put_2_3 15 rfl rfl)
theorem dJ4_put_2_87 : decode cJ4_put_2 87 = .ok (.ifCond .ne 8, 3) := dk_154 0 8 (dk_at dksJ4_put_2_3 16 rfl rfl)
theorem dJ4_put_2_90 : decode cJ4_put_2 90 = .ok (.aload 8, 2) := dk_25 8 (dk_at dksJ4_put_2_3 19 rfl rfl)
theorem dJ4_put_2_92 : decode cJ4_put_2 92 = .ok (.ifnonnull 9, 3) := dk_199 0 9 (dk_at dksJ4_put_2_3 21 rfl rfl)
theorem dJ4_put_2_95 : decode cJ4_put_2 95 = .ok (.aload 4, 2) := dk_25 4 (dk_at dksJ4_put_2_4 0 rfl rfl)
theorem dJ4_put_2_97 : decode cJ4_put_2 97 = .ok (.aload_n 2, 1) := dk_44 (dk_at dksJ4_put_2_4 2 rfl rfl)
theorem dJ4_put_2_98 : decode cJ4_put_2 98 = .ok (.putfield 58, 3) := dk_181 0 58 (dk_at dksJ4_put_2_4 3 rfl rfl)
theorem dJ4_put_2_101 : decode cJ4_put_2 101 = .ok (.aload 8, 2) := dk_25 8 (dk_at dksJ4_put_2_4 6 rfl rfl)
theorem dJ4_put_2_103 : decode cJ4_put_2 103 = .ok (.areturn, 1) := dk_176 (dk_at dksJ4_put_2_4 8 rfl rfl)
theorem dJ4_put_2_104 : decode cJ4_put_2 104 = .ok (.aload 4, 2) := dk_25 4 (dk_at dksJ4_put_2_4 9 rfl rfl)
theorem dJ4_put_2_106 : decode cJ4_put_2 106 = .ok (.ifnonnull (-76), 3) := dk_199 255 180 (dk_at dksJ4_put_2_4 11 rfl rfl)
theorem dJ4_put_2_109 : decode cJ4_put_2 109 = .ok (.goto 92, 3) := dk_167 0 92 (dk_at dksJ4_put_2_4 14 rfl rfl)
theorem dJ4_put_2_112 : decode cJ4_put_2 112 = .ok (.aload_n 1, 1) := dk_43 (dk_at dksJ4_put_2_4 17 rfl rfl)
theorem dJ4_put_2_113 : decode cJ4_put_2 113 = .ok (.invokestatic 95, 3) := dk_184 0 95 (dk_at dksJ4_put_2_4 18 rfl rfl)
theorem dJ4_put_2_116 : decode cJ4_put_2 116 = .ok (.pop, 1) := dk_87 (dk_at dksJ4_put_2_4 21 rfl rfl)
theorem dJ4_put_2_117 : decode cJ4_put_2 117 = .ok (.aload_n 1, 1) := dk_43 (dk_at dksJ4_put_2_4 22 rfl rfl)
theorem dJ4_put_2_118 : decode cJ4_put_2 118 = .ok (.checkcast 99, 3) := dk_192 0 99 (dk_at dksJ4_put_2_5 0 rfl rfl)
theorem dJ4_put_2_121 : decode cJ4_put_2 121 = .ok (.astore 8, 2) := dk_58 8 (dk_at dksJ4_put_2_5 3 rfl rfl)
theorem dJ4_put_2_123 : decode cJ4_put_2 123 = .ok (.aload 4, 2) := dk_25 4 (dk_at dksJ4_put_2_5 5 rfl rfl)
theorem dJ4_put_2_125 : decode cJ4_put_2 125 = .ok (.astore 6, 2) := dk_58 6 (dk_at dksJ4_put_2_5 7 rfl rfl)
theorem dJ4_put_2_127 : decode cJ4_put_2 127 = .ok (.aload 8, 2) := dk_25 8 (dk_at dksJ4_put_2_5 9 rfl rfl)
theorem dJ4_put_2_129 : decode cJ4_put_2 129 = .ok (.aload 4, 2) := dk_25 4 (dk_at dksJ4_put_2_5 11 rfl rfl)
theorem dJ4_put_2_131 : decode cJ4_put_2 131 = .ok (.getfield 105, 3) := dk_180 0 105 (dk_at dksJ4_put_2_5 13 rfl rfl)
theorem dJ4_put_2_134 : decode cJ4_put_2 134 = .ok (.invokeinterface 107 2, 5) := by decide +kernel
theorem dJ4_put_2_139 : decode cJ4_put_2 139 = .ok (.istore 5, 2) := dk_54 5 (dk_at dksJ4_put_2_5 21 rfl rfl)
theorem dJ4_put_2_141 : decode cJ4_put_2 141 = .ok (.iload 5, 2) := dk_21 5 (dk_at dksJ4_put_2_6 0 rfl rfl)
theorem dJ4_put_2_143 : decode cJ4_put_2 143 = .ok (.ifCond .ge 13, 3) := dk_156 0 13 (dk_at dksJ4_put_2_6 2 rfl rfl)
theorem dJ4_put_2_146 : decode cJ4_put_2 146 = .ok (.aload 4, 2) := dk_25 4 (dk_at dksJ4_put_2_6 5 rfl rfl)
theorem dJ4_put_2_148 : decode cJ4_put_2 148 = .ok (.getfield 111, 3) := dk_180 0 111 (dk_at dksJ4_put_2_6 7 rfl rfl)
theorem dJ4_put_2_151 : decode cJ4_put_2 151 = .ok (.astore 4, 2) := dk_58 4 (dk_at dksJ4_put_2_6 10 rfl rfl)
theorem dJ4_put_2_153 : decode cJ4_put_2 153 = .ok (.goto 43, 3) := dk_167 0 43 (dk_at dksJ4_put_2_6 12 rfl rfl)
theorem dJ4_put_2_156 : decode cJ4_put_2 156 = .ok (.iload 5, 2) := dk_21 5 (dk_at dksJ4_put_2_6 15 rfl rfl)
theorem dJ4_put_2_158 : decode cJ4_put_2 158 = .ok (.ifCond .le 13, 3) := dk_158 0 13 (dk_at dksJ4_put_2_6 17 rfl rfl)
theorem dJ4_put_2_161 : decode cJ4_put_2 161 = .ok (.aload 4, 2) := dk_25 4 (dk_at dksJ4_put_2_6 20 rfl rfl)
theorem dJ4_put_2_163 : decode cJ4_put_2 163 = .ok (.getfield 114, 3) := dk_180 0 114 (dk_at dksJ4_put_2_7 0 rfl rfl)
theorem dJ4_put_2_166 : decode cJ4_put_2 166 = .ok (.astore 4, 2) := dk_58 4 (dk_at dksJ4_put_2_7 3 rfl rfl)
theorem dJ4_put_2_168 : decode cJ4_put_2 168 = .ok (.goto 28, 3) := dk_167 0 28 (dk_at dksJ4_put_2_7 5 rfl rfl)
theorem dJ4_put_2_171 : decode cJ4_put_2 171 = .ok (.aload 4, 2) := dk_25 4 (dk_at dksJ4_put_2_7 8 rfl rfl)
theorem dJ4_put_2_173 : decode cJ4_put_2 173 = .ok (.getfield 58, 3) := dk_180 0 58 (dk_at dksJ4_put_2_7 10 rfl rfl)
theorem dJ4_put_2_176 : decode cJ4_put_2 176 = .ok (.astore 9, 2) := dk_58 9 (dk_at dksJ4_put_2_7 13 rfl rfl)
theorem dJ4_put_2_178 : decode cJ4_put_2 178 = .ok (.iload_n 3, 1) := dk_29 (dk_at dksJ4_put_2_7 15 rfl rfl)
theorem dJ4_put_2_179 : decode cJ4_put_2 179 = .ok (.ifCond .ne 8, 3) := dk_154 0 8 (dk_at dksJ4_put_2_7 16 rfl rfl)
theorem dJ4_put_2_182 : decode cJ4_put_2 182 = .ok (.aload 9, 2) := dk_25 9 (dk_at dksJ4_put_2_7 19 rfl rfl)
theorem dJ4_put_2_184 : decode cJ4_put_2 184 = .ok (.ifnonnull 9, 3) := dk_199 0 9 (dk_at dksJ4_put_2_7 21 rfl rfl)
theorem dJ4_put_2_187 : decode cJ4_put_2 187 = .ok (.aload 4, 2) := dk_25 4 (dk_at dksJ4_put_2_8 0 rfl rfl)
theorem dJ4_put_2_189 : decode cJ4_put_2 189 = .ok (.aload_n 2, 1) := dk_44 (dk_at dksJ4_put_2_8 2 rfl rfl)
theorem dJ4_put_2_190 : decode cJ4_put_2 190 = .ok (.putfield 58, 3) := dk_181 0 58 (dk_at dksJ4_put_2_8 3 rfl rfl)
theorem dJ4_put_2_193 : decode cJ4_put_2 193 = .ok (.aload 9, 2) := dk_25 9 (dk_at dksJ4_put_2_8 6 rfl rfl)
theorem dJ4_put_2_195 : decode cJ4_put_2 195 = .ok (.areturn, 1) := dk_176 (dk_at dksJ4_put_2_8 8 rfl rfl)
theorem dJ4_put_2_196 : decode cJ4_put_2 196 = .ok (.aload 4, 2) := dk_25 4 (dk_at dksJ4_put_2_8 9 rfl rfl)
theorem dJ4_put_2_198 : decode cJ4_put_2 198 = .ok (.ifnonnull (-75), 3) := dk_199 255 181 (dk_at dksJ4_put_2_8 11 rfl rfl)
theorem dJ4_put_2_201 : decode cJ4_put_2 201 = .ok (.aload_n 0, 1) := dk_42 (dk_at dksJ4_put_2_8 14 rfl rfl)
theorem dJ4_put_2_202 : decode cJ4_put_2 202 = .ok (.aload_n 1, 1) := dk_43 (dk_at dksJ4_put_2_8 15 rfl rfl)
theorem dJ4_put_2_203 : decode cJ4_put_2 203 = .ok (.aload_n 2, 1) := dk_44 (dk_at dksJ4_put_2_8 16 rfl rfl)
theorem dJ4_put_2_204 : decode cJ4_put_2 204 = .ok (.aload 6, 2) := dk_25 6 (dk_at dksJ4_put_2_8 17 rfl rfl)
theorem dJ4_put_2_206 : decode cJ4_put_2 206 = .ok (.iload 5, 2) := dk_21 5 (dk_at dksJ4_put_2_8 19 rfl rfl)
theorem dJ4_put_2_208 : decode cJ4_put_2 208 = .ok (.ifCond .ge 7, 3) := dk_156 0 7 (dk_at dksJ4_put_2_8 21 rfl rfl)
theorem dJ4_put_2_211 : decode cJ4_put_2 211 = .ok (.iconst 1, 1) := dk_4 (dk_at dksJ4_put_2_9 0 rfl rfl)
theorem dJ4_put_2_212 : decode cJ4_put_2 212 = .ok (.goto 4, 3) := dk_167 0 4 (dk_at dksJ4_put_2_9 1 rfl rfl)
theorem dJ4_put_2_215 : decode cJ4_put_2 215 = .ok (.iconst 0, 1) := dk_3 (dk_at dksJ4_put_2_9 4 rfl rfl)
theorem dJ4_put_2_216 : decode cJ4_put_2 216 = .ok (.invokevirtual 139, 3) := dk_182 0 139 (dk_at dksJ4_put_2_9 5 rfl rfl)
theorem dJ4_put_2_219 : decode cJ4_put_2 219 = .ok (.aconst_null, 1) := dk_1 (dk_at dksJ4_put_2_9 8 rfl rfl)
theorem dJ4_put_2_220 : decode cJ4_put_2 220 = .ok (.areturn, 1) := dk_176 (dk_at dksJ4_put_2_9 9 rfl rfl)
abbrev cJ4_addEntryToEmptyMap : ByteArray := prog_55_method_30_code
def yJ4_addEntryToEmptyMap : MethodName := ⟨RJ4, "addEntryToEmptyMap", "(Ljava/lang/Object;Ljava/lang/Object;)V"⟩
def dkwJ4_addEntryToEmptyMap_1 : List UInt8 := [181, 0, 7, 42, 89, 180, 0, 13, 4, 96, 181, 0, 13, 177]
abbrev dktJ4_addEntryToEmptyMap_1 : List UInt8 := dkwJ4_addEntryToEmptyMap_1 ++ []
def dkwJ4_addEntryToEmptyMap_0 : List UInt8 := [42, 43, 43, 182, 0, 123, 87, 42, 187, 0, 59, 89, 43, 44, 1, 183, 0, 167, 181, 0, 101, 42, 4]
abbrev dktJ4_addEntryToEmptyMap_0 : List UInt8 := dkwJ4_addEntryToEmptyMap_0 ++ dktJ4_addEntryToEmptyMap_1
theorem dksJ4_addEntryToEmptyMap_0 : cJ4_addEntryToEmptyMap.data.toList.drop 0 = dktJ4_addEntryToEmptyMap_0 := by decide +kernel
theorem dksJ4_addEntryToEmptyMap_1 : cJ4_addEntryToEmptyMap.data.toList.drop 23 = dktJ4_addEntryToEmptyMap_1 := dk_seg dksJ4_addEntryToEmptyMap_0 23 rfl rfl
theorem dJ4_addEntryToEmptyMap_0 : decode cJ4_addEntryToEmptyMap 0 = .ok (.aload_n 0, 1) := dk_42 (dk_at dksJ4_addEntryToEmptyMap_0 0 rfl rfl)
theorem dJ4_addEntryToEmptyMap_1 : decode cJ4_addEntryToEmptyMap 1 = .ok (.aload_n 1, 1) := dk_43 (dk_at dksJ4_addEntryToEmptyMap_0 1 rfl rfl)
theorem dJ4_addEntryToEmptyMap_2 : decode cJ4_addEntryToEmptyMap 2 = .ok (.aload_n 1, 1) := dk_43 (dk_at dksJ4_addEntryToEmptyMap_0 2 rfl rfl)
theorem dJ4_addEntryToEmptyMap_3 : decode cJ4_addEntryToEmptyMap 3 = .ok (.invokevirtual 123, 3) := dk_182 0 123 (dk_at dksJ4_addEntryToEmptyMap_0 3 rfl rfl)
theorem dJ4_addEntryToEmptyMap_6 : decode cJ4_addEntryToEmptyMap 6 = .ok (.pop, 1) := dk_87 (dk_at dksJ4_addEntryToEmptyMap_0 6 rfl rfl)
theorem dJ4_addEntryToEmptyMap_7 : decode cJ4_addEntryToEmptyMap 7 = .ok (.aload_n 0, 1) := dk_42 (dk_at dksJ4_addEntryToEmptyMap_0 7 rfl rfl)
theorem dJ4_addEntryToEmptyMap_8 : decode cJ4_addEntryToEmptyMap 8 = .ok (.new 59, 3) := dk_187 0 59 (dk_at dksJ4_addEntryToEmptyMap_0 8 rfl rfl)
theorem dJ4_addEntryToEmptyMap_11 : decode cJ4_addEntryToEmptyMap 11 = .ok (.dup, 1) := dk_89 (dk_at dksJ4_addEntryToEmptyMap_0 11 rfl rfl)
theorem dJ4_addEntryToEmptyMap_12 : decode cJ4_addEntryToEmptyMap 12 = .ok (.aload_n 1, 1) := dk_43 (dk_at dksJ4_addEntryToEmptyMap_0 12 rfl rfl)
theorem dJ4_addEntryToEmptyMap_13 : decode cJ4_addEntryToEmptyMap 13 = .ok (.aload_n 2, 1) := dk_44 (dk_at dksJ4_addEntryToEmptyMap_0 13 rfl rfl)
theorem dJ4_addEntryToEmptyMap_14 : decode cJ4_addEntryToEmptyMap 14 = .ok (.aconst_null, 1) := dk_1 (dk_at dksJ4_addEntryToEmptyMap_0 14 rfl rfl)
theorem dJ4_addEntryToEmptyMap_15 : decode cJ4_addEntryToEmptyMap 15 = .ok (.invokespecial 167, 3) := dk_183 0 167 (dk_at dksJ4_addEntryToEmptyMap_0 15 rfl rfl)
theorem dJ4_addEntryToEmptyMap_18 : decode cJ4_addEntryToEmptyMap 18 = .ok (.putfield 101, 3) := dk_181 0 101 (dk_at dksJ4_addEntryToEmptyMap_0 18 rfl rfl)
theorem dJ4_addEntryToEmptyMap_21 : decode cJ4_addEntryToEmptyMap 21 = .ok (.aload_n 0, 1) := dk_42 (dk_at dksJ4_addEntryToEmptyMap_0 21 rfl rfl)
theorem dJ4_addEntryToEmptyMap_22 : decode cJ4_addEntryToEmptyMap 22 = .ok (.iconst 1, 1) := dk_4 (dk_at dksJ4_addEntryToEmptyMap_0 22 rfl rfl)
theorem dJ4_addEntryToEmptyMap_23 : decode cJ4_addEntryToEmptyMap 23 = .ok (.putfield 7, 3) := dk_181 0 7 (dk_at dksJ4_addEntryToEmptyMap_1 0 rfl rfl)
theorem dJ4_addEntryToEmptyMap_26 : decode cJ4_addEntryToEmptyMap 26 = .ok (.aload_n 0, 1) := dk_42 (dk_at dksJ4_addEntryToEmptyMap_1 3 rfl rfl)
theorem dJ4_addEntryToEmptyMap_27 : decode cJ4_addEntryToEmptyMap 27 = .ok (.dup, 1) := dk_89 (dk_at dksJ4_addEntryToEmptyMap_1 4 rfl rfl)
theorem dJ4_addEntryToEmptyMap_28 : decode cJ4_addEntryToEmptyMap 28 = .ok (.getfield 13, 3) := dk_180 0 13 (dk_at dksJ4_addEntryToEmptyMap_1 5 rfl rfl)
theorem dJ4_addEntryToEmptyMap_31 : decode cJ4_addEntryToEmptyMap 31 = .ok (.iconst 1, 1) := dk_4 (dk_at dksJ4_addEntryToEmptyMap_1 8 rfl rfl)
theorem dJ4_addEntryToEmptyMap_32 : decode cJ4_addEntryToEmptyMap 32 = .ok (.iadd, 1) := dk_96 (dk_at dksJ4_addEntryToEmptyMap_1 9 rfl rfl)
theorem dJ4_addEntryToEmptyMap_33 : decode cJ4_addEntryToEmptyMap 33 = .ok (.putfield 13, 3) := dk_181 0 13 (dk_at dksJ4_addEntryToEmptyMap_1 10 rfl rfl)
theorem dJ4_addEntryToEmptyMap_36 : decode cJ4_addEntryToEmptyMap 36 = .ok (.return_, 1) := dk_177 (dk_at dksJ4_addEntryToEmptyMap_1 13 rfl rfl)
abbrev cJ4_compare : ByteArray := prog_55_method_67_code
def yJ4_compare : MethodName := ⟨RJ4, "compare", "(Ljava/lang/Object;Ljava/lang/Object;)I"⟩
def dkwJ4_compare_1 : List UInt8 := [43, 44, 185, 0, 117, 3, 0, 172]
abbrev dktJ4_compare_1 : List UInt8 := dkwJ4_compare_1 ++ []
def dkwJ4_compare_0 : List UInt8 := [42, 180, 0, 16, 199, 0, 16, 43, 192, 0, 99, 44, 185, 0, 107, 2, 0, 167, 0, 14, 42, 180, 0, 16]
abbrev dktJ4_compare_0 : List UInt8 := dkwJ4_compare_0 ++ dktJ4_compare_1
theorem dksJ4_compare_0 : cJ4_compare.data.toList.drop 0 = dktJ4_compare_0 := by decide +kernel
theorem dksJ4_compare_1 : cJ4_compare.data.toList.drop 24 = dktJ4_compare_1 := dk_seg dksJ4_compare_0 24 rfl rfl
theorem dJ4_compare_0 : decode cJ4_compare 0 = .ok (.aload_n 0, 1) := dk_42 (dk_at dksJ4_compare_0 0 rfl rfl)
theorem dJ4_compare_1 : decode cJ4_compare 1 = .ok (.getfield 16, 3) := dk_180 0 16 (dk_at dksJ4_compare_0 1 rfl rfl)
theorem dJ4_compare_4 : decode cJ4_compare 4 = .ok (.ifnonnull 16, 3) := dk_199 0 16 (dk_at dksJ4_compare_0 4 rfl rfl)
theorem dJ4_compare_7 : decode cJ4_compare 7 = .ok (.aload_n 1, 1) := dk_43 (dk_at dksJ4_compare_0 7 rfl rfl)
theorem dJ4_compare_8 : decode cJ4_compare 8 = .ok (.checkcast 99, 3) := dk_192 0 99 (dk_at dksJ4_compare_0 8 rfl rfl)
theorem dJ4_compare_11 : decode cJ4_compare 11 = .ok (.aload_n 2, 1) := dk_44 (dk_at dksJ4_compare_0 11 rfl rfl)
theorem dJ4_compare_12 : decode cJ4_compare 12 = .ok (.invokeinterface 107 2, 5) := by decide +kernel
theorem dJ4_compare_17 : decode cJ4_compare 17 = .ok (.goto 14, 3) := dk_167 0 14 (dk_at dksJ4_compare_0 17 rfl rfl)
theorem dJ4_compare_20 : decode cJ4_compare 20 = .ok (.aload_n 0, 1) := dk_42 (dk_at dksJ4_compare_0 20 rfl rfl)
theorem dJ4_compare_21 : decode cJ4_compare 21 = .ok (.getfield 16, 3) := dk_180 0 16 (dk_at dksJ4_compare_0 21 rfl rfl)
theorem dJ4_compare_24 : decode cJ4_compare 24 = .ok (.aload_n 1, 1) := dk_43 (dk_at dksJ4_compare_1 0 rfl rfl)
theorem dJ4_compare_25 : decode cJ4_compare 25 = .ok (.aload_n 2, 1) := dk_44 (dk_at dksJ4_compare_1 1 rfl rfl)
theorem dJ4_compare_26 : decode cJ4_compare 26 = .ok (.invokeinterface 117 3, 5) := by decide +kernel
theorem dJ4_compare_31 : decode cJ4_compare 31 = .ok (.ireturn, 1) := dk_172 (dk_at dksJ4_compare_1 7 rfl rfl)
abbrev cJ4_addEntry : ByteArray := prog_55_method_29_code
def yJ4_addEntry : MethodName := ⟨RJ4, "addEntry", "(Ljava/lang/Object;Ljava/lang/Object;Ljava/util/TreeMap$Entry;Z)V"⟩
def dkwJ4_addEntry_2 : List UInt8 := [181, 0, 7, 42, 89, 180, 0, 13, 4, 96, 181, 0, 13, 177]
abbrev dktJ4_addEntry_2 : List UInt8 := dkwJ4_addEntry_2 ++ []
def dkwJ4_addEntry_1 : List UInt8 := [167, 0, 9, 45, 25, 5, 181, 0, 114, 42, 25, 5, 182, 0, 170, 42, 89, 180, 0, 7, 4, 96]
abbrev dktJ4_addEntry_1 : List UInt8 := dkwJ4_addEntry_1 ++ dktJ4_addEntry_2
def dkwJ4_addEntry_0 : List UInt8 := [187, 0, 59, 89, 43, 44, 45, 183, 0, 167, 58, 5, 21, 4, 153, 0, 12, 45, 25, 5, 181, 0, 111]
abbrev dktJ4_addEntry_0 : List UInt8 := dkwJ4_addEntry_0 ++ dktJ4_addEntry_1
theorem dksJ4_addEntry_0 : cJ4_addEntry.data.toList.drop 0 = dktJ4_addEntry_0 := by decide +kernel
theorem dksJ4_addEntry_1 : cJ4_addEntry.data.toList.drop 23 = dktJ4_addEntry_1 := dk_seg dksJ4_addEntry_0 23 rfl rfl
theorem dksJ4_addEntry_2 : cJ4_addEntry.data.toList.drop 45 = dktJ4_addEntry_2 := dk_seg dksJ4_addEntry_1 22 rfl rfl
theorem dJ4_addEntry_0 : decode cJ4_addEntry 0 = .ok (.new 59, 3) := dk_187 0 59 (dk_at dksJ4_addEntry_0 0 rfl rfl)
theorem dJ4_addEntry_3 : decode cJ4_addEntry 3 = .ok (.dup, 1) := dk_89 (dk_at dksJ4_addEntry_0 3 rfl rfl)
theorem dJ4_addEntry_4 : decode cJ4_addEntry 4 = .ok (.aload_n 1, 1) := dk_43 (dk_at dksJ4_addEntry_0 4 rfl rfl)
theorem dJ4_addEntry_5 : decode cJ4_addEntry 5 = .ok (.aload_n 2, 1) := dk_44 (dk_at dksJ4_addEntry_0 5 rfl rfl)
theorem dJ4_addEntry_6 : decode cJ4_addEntry 6 = .ok (.aload_n 3, 1) := dk_45 (dk_at dksJ4_addEntry_0 6 rfl rfl)
theorem dJ4_addEntry_7 : decode cJ4_addEntry 7 = .ok (.invokespecial 167, 3) := dk_183 0 167 (dk_at dksJ4_addEntry_0 7 rfl rfl)
theorem dJ4_addEntry_10 : decode cJ4_addEntry 10 = .ok (.astore 5, 2) := dk_58 5 (dk_at dksJ4_addEntry_0 10 rfl rfl)
theorem dJ4_addEntry_12 : decode cJ4_addEntry 12 = .ok (.iload 4, 2) := dk_21 4 (dk_at dksJ4_addEntry_0 12 rfl rfl)
theorem dJ4_addEntry_14 : decode cJ4_addEntry 14 = .ok (.ifCond .eq 12, 3) := dk_153 0 12 (dk_at dksJ4_addEntry_0 14 rfl rfl)
theorem dJ4_addEntry_17 : decode cJ4_addEntry 17 = .ok (.aload_n 3, 1) := dk_45 (dk_at dksJ4_addEntry_0 17 rfl rfl)
theorem dJ4_addEntry_18 : decode cJ4_addEntry 18 = .ok (.aload 5, 2) := dk_25 5 (dk_at dksJ4_addEntry_0 18 rfl rfl)
theorem dJ4_addEntry_20 : decode cJ4_addEntry 20 = .ok (.putfield 111, 3) := dk_181 0 111 (dk_at dksJ4_addEntry_0 20 rfl rfl)
theorem dJ4_addEntry_23 : decode cJ4_addEntry 23 = .ok (.goto 9, 3) := dk_167 0 9 (dk_at dksJ4_addEntry_1 0 rfl rfl)
theorem dJ4_addEntry_26 : decode cJ4_addEntry 26 = .ok (.aload_n 3, 1) := dk_45 (dk_at dksJ4_addEntry_1 3 rfl rfl)
theorem dJ4_addEntry_27 : decode cJ4_addEntry 27 = .ok (.aload 5, 2) := dk_25 5 (dk_at dksJ4_addEntry_1 4 rfl rfl)
theorem dJ4_addEntry_29 : decode cJ4_addEntry 29 = .ok (.putfield 114, 3) := dk_181 0 114 (dk_at dksJ4_addEntry_1 6 rfl rfl)
theorem dJ4_addEntry_32 : decode cJ4_addEntry 32 = .ok (.aload_n 0, 1) := dk_42 (dk_at dksJ4_addEntry_1 9 rfl rfl)
theorem dJ4_addEntry_33 : decode cJ4_addEntry 33 = .ok (.aload 5, 2) := dk_25 5 (dk_at dksJ4_addEntry_1 10 rfl rfl)
theorem dJ4_addEntry_35 : decode cJ4_addEntry 35 = .ok (.invokevirtual 170, 3) := dk_182 0 170 (dk_at dksJ4_addEntry_1 12 rfl rfl)
theorem dJ4_addEntry_38 : decode cJ4_addEntry 38 = .ok (.aload_n 0, 1) := dk_42 (dk_at dksJ4_addEntry_1 15 rfl rfl)
theorem dJ4_addEntry_39 : decode cJ4_addEntry 39 = .ok (.dup, 1) := dk_89 (dk_at dksJ4_addEntry_1 16 rfl rfl)
theorem dJ4_addEntry_40 : decode cJ4_addEntry 40 = .ok (.getfield 7, 3) := dk_180 0 7 (dk_at dksJ4_addEntry_1 17 rfl rfl)
theorem dJ4_addEntry_43 : decode cJ4_addEntry 43 = .ok (.iconst 1, 1) := dk_4 (dk_at dksJ4_addEntry_1 20 rfl rfl)
theorem dJ4_addEntry_44 : decode cJ4_addEntry 44 = .ok (.iadd, 1) := dk_96 (dk_at dksJ4_addEntry_1 21 rfl rfl)
theorem dJ4_addEntry_45 : decode cJ4_addEntry 45 = .ok (.putfield 7, 3) := dk_181 0 7 (dk_at dksJ4_addEntry_2 0 rfl rfl)
theorem dJ4_addEntry_48 : decode cJ4_addEntry 48 = .ok (.aload_n 0, 1) := dk_42 (dk_at dksJ4_addEntry_2 3 rfl rfl)
theorem dJ4_addEntry_49 : decode cJ4_addEntry 49 = .ok (.dup, 1) := dk_89 (dk_at dksJ4_addEntry_2 4 rfl rfl)
theorem dJ4_addEntry_50 : decode cJ4_addEntry 50 = .ok (.getfield 13, 3) := dk_180 0 13 (dk_at dksJ4_addEntry_2 5 rfl rfl)
theorem dJ4_addEntry_53 : decode cJ4_addEntry 53 = .ok (.iconst 1, 1) := dk_4 (dk_at dksJ4_addEntry_2 8 rfl rfl)
theorem dJ4_addEntry_54 : decode cJ4_addEntry 54 = .ok (.iadd, 1) := dk_96 (dk_at dksJ4_addEntry_2 9 rfl rfl)
theorem dJ4_addEntry_55 : decode cJ4_addEntry 55 = .ok (.putfield 13, 3) := dk_181 0 13 (dk_at dksJ4_addEntry_2 10 rfl rfl)
theorem dJ4_addEntry_58 : decode cJ4_addEntry 58 = .ok (.return_, 1) := dk_177 (dk_at dksJ4_addEntry_2 13 rfl rfl)
abbrev cJ4_fixAfterInsertion : ByteArray := prog_55_method_83_code
def yJ4_fixAfterInsertion : MethodName := ⟨RJ4, "fixAfterInsertion", "(Ljava/util/TreeMap$Entry;)V"⟩
def dkwJ4_fixAfterInsertion_11 : List UInt8 := [42, 180, 0, 101, 4, 181, 1, 34, 177]
abbrev dktJ4_fixAfterInsertion_11 : List UInt8 := dkwJ4_fixAfterInsertion_11 ++ []
def dkwJ4_fixAfterInsertion_10 : List UInt8 := [184, 1, 38, 184, 1, 38, 3, 184, 1, 51, 42, 43, 184, 1, 38, 184, 1, 38, 182, 1, 55, 167, 255, 6]
abbrev dktJ4_fixAfterInsertion_10 : List UInt8 := dkwJ4_fixAfterInsertion_10 ++ dktJ4_fixAfterInsertion_11
def dkwJ4_fixAfterInsertion_9 : List UInt8 := [166, 0, 13, 43, 184, 1, 38, 76, 42, 43, 182, 1, 58, 43, 184, 1, 38, 4, 184, 1, 51, 43]
abbrev dktJ4_fixAfterInsertion_9 : List UInt8 := dkwJ4_fixAfterInsertion_9 ++ dktJ4_fixAfterInsertion_10
def dkwJ4_fixAfterInsertion_8 : List UInt8 := [184, 1, 51, 43, 184, 1, 38, 184, 1, 38, 76, 167, 0, 54, 43, 43, 184, 1, 38, 184, 1, 41]
abbrev dktJ4_fixAfterInsertion_8 : List UInt8 := dkwJ4_fixAfterInsertion_8 ++ dktJ4_fixAfterInsertion_9
def dkwJ4_fixAfterInsertion_7 : List UInt8 := [154, 0, 38, 43, 184, 1, 38, 4, 184, 1, 51, 44, 4, 184, 1, 51, 43, 184, 1, 38, 184, 1, 38, 3]
abbrev dktJ4_fixAfterInsertion_7 : List UInt8 := dkwJ4_fixAfterInsertion_7 ++ dktJ4_fixAfterInsertion_8
def dkwJ4_fixAfterInsertion_6 : List UInt8 := [184, 1, 38, 182, 1, 58, 167, 255, 113, 43, 184, 1, 38, 184, 1, 38, 184, 1, 41, 77, 44, 184, 1, 47]
abbrev dktJ4_fixAfterInsertion_6 : List UInt8 := dkwJ4_fixAfterInsertion_6 ++ dktJ4_fixAfterInsertion_7
def dkwJ4_fixAfterInsertion_5 : List UInt8 := [43, 184, 1, 38, 4, 184, 1, 51, 43, 184, 1, 38, 184, 1, 38, 3, 184, 1, 51, 42, 43, 184, 1, 38]
abbrev dktJ4_fixAfterInsertion_5 : List UInt8 := dkwJ4_fixAfterInsertion_5 ++ dktJ4_fixAfterInsertion_6
def dkwJ4_fixAfterInsertion_4 : List UInt8 := [167, 0, 54, 43, 43, 184, 1, 38, 184, 1, 44, 166, 0, 13, 43, 184, 1, 38, 76, 42, 43, 182, 1, 55]
abbrev dktJ4_fixAfterInsertion_4 : List UInt8 := dkwJ4_fixAfterInsertion_4 ++ dktJ4_fixAfterInsertion_5
def dkwJ4_fixAfterInsertion_3 : List UInt8 := [184, 1, 51, 43, 184, 1, 38, 184, 1, 38, 3, 184, 1, 51, 43, 184, 1, 38, 184, 1, 38, 76]
abbrev dktJ4_fixAfterInsertion_3 : List UInt8 := dkwJ4_fixAfterInsertion_3 ++ dktJ4_fixAfterInsertion_4
def dkwJ4_fixAfterInsertion_2 : List UInt8 := [184, 1, 38, 184, 1, 44, 77, 44, 184, 1, 47, 154, 0, 38, 43, 184, 1, 38, 4, 184, 1, 51, 44, 4]
abbrev dktJ4_fixAfterInsertion_2 : List UInt8 := dkwJ4_fixAfterInsertion_2 ++ dktJ4_fixAfterInsertion_3
def dkwJ4_fixAfterInsertion_1 : List UInt8 := [154, 0, 234, 43, 184, 1, 38, 43, 184, 1, 38, 184, 1, 38, 184, 1, 41, 166, 0, 110, 43, 184, 1, 38]
abbrev dktJ4_fixAfterInsertion_1 : List UInt8 := dkwJ4_fixAfterInsertion_1 ++ dktJ4_fixAfterInsertion_2
def dkwJ4_fixAfterInsertion_0 : List UInt8 := [43, 3, 181, 1, 34, 43, 198, 0, 252, 43, 42, 180, 0, 101, 165, 0, 244, 43, 180, 0, 124, 180, 1, 34]
abbrev dktJ4_fixAfterInsertion_0 : List UInt8 := dkwJ4_fixAfterInsertion_0 ++ dktJ4_fixAfterInsertion_1
theorem dksJ4_fixAfterInsertion_0 : cJ4_fixAfterInsertion.data.toList.drop 0 = dktJ4_fixAfterInsertion_0 := by decide +kernel
theorem dksJ4_fixAfterInsertion_1 : cJ4_fixAfterInsertion.data.toList.drop 24 = dktJ4_fixAfterInsertion_1 := dk_seg dksJ4_fixAfterInsertion_0 24 rfl rfl
theorem dksJ4_fixAfterInsertion_2 : cJ4_fixAfterInsertion.data.toList.drop 48 = dktJ4_fixAfterInsertion_2 := dk_seg dksJ4_fixAfterInsertion_1 24 rfl rfl
theorem dksJ4_fixAfterInsertion_3 : cJ4_fixAfterInsertion.data.toList.drop 72 = dktJ4_fixAfterInsertion_3 := dk_seg dksJ4_fixAfterInsertion_2 24 rfl rfl
theorem dksJ4_fixAfterInsertion_4 : cJ4_fixAfterInsertion.data.toList.drop 94 = dktJ4_fixAfterInsertion_4 := dk_seg dksJ4_fixAfterInsertion_3 22 rfl rfl
theorem dksJ4_fixAfterInsertion_5 : cJ4_fixAfterInsertion.data.toList.drop 118 = dktJ4_fixAfterInsertion_5 := dk_seg dksJ4_fixAfterInsertion_4 24 rfl rfl
theorem dksJ4_fixAfterInsertion_6 : cJ4_fixAfterInsertion.data.toList.drop 142 = dktJ4_fixAfterInsertion_6 := dk_seg dksJ4_fixAfterInsertion_5 24 rfl rfl
theorem dksJ4_fixAfterInsertion_7 : cJ4_fixAfterInsertion.data.toList.drop 166 = dktJ4_fixAfterInsertion_7 := dk_seg dksJ4_fixAfterInsertion_6 24 rfl rfl
theorem dksJ4_fixAfterInsertion_8 : cJ4_fixAfterInsertion.data.toList.drop 190 = dktJ4_fixAfterInsertion_8 := dk_seg dksJ4_fixAfterInsertion_7 24 rfl rfl
theorem dksJ4_fixAfterInsertion_9 : cJ4_fixAfterInsertion.data.toList.drop 212 = dktJ4_fixAfterInsertion_9 := dk_seg dksJ4_fixAfterInsertion_8 22 rfl rfl
theorem dksJ4_fixAfterInsertion_10 : cJ4_fixAfterInsertion.data.toList.drop 234 = dktJ4_fixAfterInsertion_10 := dk_seg dksJ4_fixAfterInsertion_9 22 rfl rfl
theorem dksJ4_fixAfterInsertion_11 : cJ4_fixAfterInsertion.data.toList.drop 258 = dktJ4_fixAfterInsertion_11 := dk_seg dksJ4_fixAfterInsertion_10 24 rfl rfl
theorem dJ4_fixAfterInsertion_0 : decode cJ4_fixAfterInsertion 0 = .ok (.aload_n 1, 1) := dk_43 (dk_at dksJ4_fixAfterInsertion_0 0 rfl rfl)
theorem dJ4_fixAfterInsertion_1 : decode cJ4_fixAfterInsertion 1 = .ok (.iconst 0, 1) := dk_3 (dk_at dksJ4_fixAfterInsertion_0 1 rfl rfl)
theorem dJ4_fixAfterInsertion_2 : decode cJ4_fixAfterInsertion 2 = .ok (.putfield 290, 3) := dk_181 1 34 (dk_at dksJ4_fixAfterInsertion_0 2 rfl rfl)
theorem dJ4_fixAfterInsertion_5 : decode cJ4_fixAfterInsertion 5 = .ok (.aload_n 1, 1) := dk_43 (dk_at dksJ4_fixAfterInsertion_0 5 rfl rfl)
theorem dJ4_fixAfterInsertion_6 : decode cJ4_fixAfterInsertion 6 = .ok (.ifnull 252, 3) := dk_198 0 252 (dk_at dksJ4_fixAfterInsertion_0 6 rfl rfl)
theorem dJ4_fixAfterInsertion_9 : decode cJ4_fixAfterInsertion 9 = .ok (.aload_n 1, 1) := dk_43 (dk_at dksJ4_fixAfterInsertion_0 9 rfl rfl)
theorem dJ4_fixAfterInsertion_10 : decode cJ4_fixAfterInsertion 10 = .ok (.aload_n 0, 1) := dk_42 (dk_at dksJ4_fixAfterInsertion_0 10 rfl rfl)
theorem dJ4_fixAfterInsertion_11 : decode cJ4_fixAfterInsertion 11 = .ok (.getfield 101, 3) := dk_180 0 101 (dk_at dksJ4_fixAfterInsertion_0 11 rfl rfl)
theorem dJ4_fixAfterInsertion_14 : decode cJ4_fixAfterInsertion 14 = .ok (.if_acmp .eq 244, 3) := dk_165 0 244 (dk_at dksJ4_fixAfterInsertion_0 14 rfl rfl)
theorem dJ4_fixAfterInsertion_17 : decode cJ4_fixAfterInsertion 17 = .ok (.aload_n 1, 1) := dk_43 (dk_at dksJ4_fixAfterInsertion_0 17 rfl rfl)
theorem dJ4_fixAfterInsertion_18 : decode cJ4_fixAfterInsertion 18 = .ok (.getfield 124, 3) := dk_180 0 124 (dk_at dksJ4_fixAfterInsertion_0 18 rfl rfl)
theorem dJ4_fixAfterInsertion_21 : decode cJ4_fixAfterInsertion 21 = .ok (.getfield 290, 3) := dk_180 1 34 (dk_at dksJ4_fixAfterInsertion_0 21 rfl rfl)
theorem dJ4_fixAfterInsertion_24 : decode cJ4_fixAfterInsertion 24 = .ok (.ifCond .ne 234, 3) := dk_154 0 234 (dk_at dksJ4_fixAfterInsertion_1 0 rfl rfl)
theorem dJ4_fixAfterInsertion_27 : decode cJ4_fixAfterInsertion 27 = .ok (.aload_n 1, 1) := dk_43 (dk_at dksJ4_fixAfterInsertion_1 3 rfl rfl)
theorem dJ4_fixAfterInsertion_28 : decode cJ4_fixAfterInsertion 28 = .ok (.invokestatic 294, 3) := dk_184 1 38 (dk_at dksJ4_fixAfterInsertion_1 4 rfl rfl)
theorem dJ4_fixAfterInsertion_31 : decode cJ4_fixAfterInsertion 31 = .ok (.aload_n 1, 1) := dk_43 (dk_at dksJ4_fixAfterInsertion_1 7 rfl rfl)
theorem dJ4_fixAfterInsertion_32 : decode cJ4_fixAfterInsertion 32 = .ok (.invokestatic 294, 3) := dk_184 1 38 (dk_at dksJ4_fixAfterInsertion_1 8 rfl rfl)
theorem dJ4_fixAfterInsertion_35 : decode cJ4_fixAfterInsertion 35 = .ok (.invokestatic 294, 3) := dk_184 1 38 (dk_at dksJ4_fixAfterInsertion_1 11 rfl rfl)
theorem dJ4_fixAfterInsertion_38 : decode cJ4_fixAfterInsertion 38 = .ok (.invokestatic 297, 3) := dk_184 1 41 (dk_at dksJ4_fixAfterInsertion_1 14 rfl rfl)
theorem dJ4_fixAfterInsertion_41 : decode cJ4_fixAfterInsertion 41 = .ok (.if_acmp .ne 110, 3) := dk_166 0 110 (dk_at dksJ4_fixAfterInsertion_1 17 rfl rfl)
theorem dJ4_fixAfterInsertion_44 : decode cJ4_fixAfterInsertion 44 = .ok (.aload_n 1, 1) := dk_43 (dk_at dksJ4_fixAfterInsertion_1 20 rfl rfl)
theorem dJ4_fixAfterInsertion_45 : decode cJ4_fixAfterInsertion 45 = .ok (.invokestatic 294, 3) := dk_184 1 38 (dk_at dksJ4_fixAfterInsertion_1 21 rfl rfl)
theorem dJ4_fixAfterInsertion_48 : decode cJ4_fixAfterInsertion 48 = .ok (.invokestatic 294, 3) := dk_184 1 38 (dk_at dksJ4_fixAfterInsertion_2 0 rfl rfl)
theorem dJ4_fixAfterInsertion_51 : decode cJ4_fixAfterInsertion 51 = .ok (.invokestatic 300, 3) := dk_184 1 44 (dk_at dksJ4_fixAfterInsertion_2 3 rfl rfl)
theorem dJ4_fixAfterInsertion_54 : decode cJ4_fixAfterInsertion 54 = .ok (.astore_n 2, 1) := dk_77 (dk_at dksJ4_fixAfterInsertion_2 6 rfl rfl)
theorem dJ4_fixAfterInsertion_55 : decode cJ4_fixAfterInsertion 55 = .ok (.aload_n 2, 1) := dk_44 (dk_at dksJ4_fixAfterInsertion_2 7 rfl rfl)
theorem dJ4_fixAfterInsertion_56 : decode cJ4_fixAfterInsertion 56 = .ok (.invokestatic 303, 3) := dk_184 1 47 (dk_at dksJ4_fixAfterInsertion_2 8 rfl rfl)
theorem dJ4_fixAfterInsertion_59 : decode cJ4_fixAfterInsertion 59 = .ok (.ifCond .ne 38, 3) := dk_154 0 38 (dk_at dksJ4_fixAfterInsertion_2 11 rfl rfl)
theorem dJ4_fixAfterInsertion_62 : decode cJ4_fixAfterInsertion 62 = .ok (.aload_n 1, 1) := dk_43 (dk_at dksJ4_fixAfterInsertion_2 14 rfl rfl)
theorem dJ4_fixAfterInsertion_63 : decode cJ4_fixAfterInsertion 63 = .ok (.invokestatic 294, 3) := dk_184 1 38 (dk_at dksJ4_fixAfterInsertion_2 15 rfl rfl)
theorem dJ4_fixAfterInsertion_66 : decode cJ4_fixAfterInsertion 66 = .ok (.iconst 1, 1) := dk_4 (dk_at dksJ4_fixAfterInsertion_2 18 rfl rfl)
theorem dJ4_fixAfterInsertion_67 : decode cJ4_fixAfterInsertion 67 = .ok (.invokestatic 307, 3) := dk_184 1 51 (dk_at dksJ4_fixAfterInsertion_2 19 rfl rfl)
theorem dJ4_fixAfterInsertion_70 : decode cJ4_fixAfterInsertion 70 = .ok (.aload_n 2, 1) := dk_44 (dk_at dksJ4_fixAfterInsertion_2 22 rfl rfl)
theorem dJ4_fixAfterInsertion_71 : decode cJ4_fixAfterInsertion 71 = .ok (.iconst 1, 1) := dk_4 (dk_at dksJ4_fixAfterInsertion_2 23 rfl rfl)
theorem dJ4_fixAfterInsertion_72 : decode cJ4_fixAfterInsertion 72 = .ok (.invokestatic 307, 3) := dk_184 1 51 (dk_at dksJ4_fixAfterInsertion_3 0 rfl rfl)
theorem dJ4_fixAfterInsertion_75 : decode cJ4_fixAfterInsertion 75 = .ok (.aload_n 1, 1) := dk_43 (dk_at dksJ4_fixAfterInsertion_3 3 rfl rfl)
theorem dJ4_fixAfterInsertion_76 : decode cJ4_fixAfterInsertion 76 = .ok (.invokestatic 294, 3) := dk_184 1 38 (dk_at dksJ4_fixAfterInsertion_3 4 rfl rfl)
theorem dJ4_fixAfterInsertion_79 : decode cJ4_fixAfterInsertion 79 = .ok (.invokestatic 294, 3) := dk_184 1 38 (dk_at dksJ4_fixAfterInsertion_3 7 rfl rfl)
theorem dJ4_fixAfterInsertion_82 : decode cJ4_fixAfterInsertion 82 = .ok (.iconst 0, 1) := dk_3 (dk_at dksJ4_fixAfterInsertion_3 10 rfl rfl)
theorem dJ4_fixAfterInsertion_83 : decode cJ4_fixAfterInsertion 83 = .ok (.invokestatic 307, 3) := dk_184 1 51 (dk_at dksJ4_fixAfterInsertion_3 11 rfl rfl)
theorem dJ4_fixAfterInsertion_86 : decode cJ4_fixAfterInsertion 86 = .ok (.aload_n 1, 1) := dk_43 (dk_at dksJ4_fixAfterInsertion_3 14 rfl rfl)
theorem dJ4_fixAfterInsertion_87 : decode cJ4_fixAfterInsertion 87 = .ok (.invokestatic 294, 3) := dk_184 1 38 (dk_at dksJ4_fixAfterInsertion_3 15 rfl rfl)
theorem dJ4_fixAfterInsertion_90 : decode cJ4_fixAfterInsertion 90 = .ok (.invokestatic 294, 3) := dk_184 1 38 (dk_at dksJ4_fixAfterInsertion_3 18 rfl rfl)
theorem dJ4_fixAfterInsertion_93 : decode cJ4_fixAfterInsertion 93 = .ok (.astore_n 1, 1) := dk_76 (dk_at dksJ4_fixAfterInsertion_3 21 rfl rfl)
theorem dJ4_fixAfterInsertion_94 : decode cJ4_fixAfterInsertion 94 = .ok (.goto 54, 3) := dk_167 0 54 (dk_at dksJ4_fixAfterInsertion_4 0 rfl rfl)
theorem dJ4_fixAfterInsertion_97 : decode cJ4_fixAfterInsertion 97 = .ok (.aload_n 1, 1) := dk_43 (dk_at dksJ4_fixAfterInsertion_4 3 rfl rfl)
theorem dJ4_fixAfterInsertion_98 : decode cJ4_fixAfterInsertion 98 = .ok (.aload_n 1, 1) := dk_43 (dk_at dksJ4_fixAfterInsertion_4 4 rfl rfl)
theorem dJ4_fixAfterInsertion_99 : decode cJ4_fixAfterInsertion 99 = .ok (.invokestatic 294, 3) := dk_184 1 38 (dk_at dksJ4_fixAfterInsertion_4 5 rfl rfl)
theorem dJ4_fixAfterInsertion_102 : decode cJ4_fixAfterInsertion 102 = .ok (.invokestatic 300, 3) := dk_184 1 44 (dk_at dksJ4_fixAfterInsertion_4 8 rfl rfl)
theorem dJ4_fixAfterInsertion_105 : decode cJ4_fixAfterInsertion 105 = .ok (.if_acmp .ne 13, 3) := dk_166 0 13 (dk_at dksJ4_fixAfterInsertion_4 11 rfl rfl)
theorem dJ4_fixAfterInsertion_108 : decode cJ4_fixAfterInsertion 108 = .ok (.aload_n 1, 1) := dk_43 (dk_at dksJ4_fixAfterInsertion_4 14 rfl rfl)
theorem dJ4_fixAfterInsertion_109 : decode cJ4_fixAfterInsertion 109 = .ok (.invokestatic 294, 3) := dk_184 1 38 (dk_at dksJ4_fixAfterInsertion_4 15 rfl rfl)
theorem dJ4_fixAfterInsertion_112 : decode cJ4_fixAfterInsertion 112 = .ok (.astore_n 1, 1) := dk_76 (dk_at dksJ4_fixAfterInsertion_4 18 rfl rfl)
theorem dJ4_fixAfterInsertion_113 : decode cJ4_fixAfterInsertion 113 = .ok (.aload_n 0, 1) := dk_42 (dk_at dksJ4_fixAfterInsertion_4 19 rfl rfl)
theorem dJ4_fixAfterInsertion_114 : decode cJ4_fixAfterInsertion 114 = .ok (.aload_n 1, 1) := dk_43 (dk_at dksJ4_fixAfterInsertion_4 20 rfl rfl)
theorem dJ4_fixAfterInsertion_115 : decode cJ4_fixAfterInsertion 115 = .ok (.invokevirtual 311, 3) := dk_182 1 55 (dk_at dksJ4_fixAfterInsertion_4 21 rfl rfl)
theorem dJ4_fixAfterInsertion_118 : decode cJ4_fixAfterInsertion 118 = .ok (.aload_n 1, 1) := dk_43 (dk_at dksJ4_fixAfterInsertion_5 0 rfl rfl)
theorem dJ4_fixAfterInsertion_119 : decode cJ4_fixAfterInsertion 119 = .ok (.invokestatic 294, 3) := dk_184 1 38 (dk_at dksJ4_fixAfterInsertion_5 1 rfl rfl)
theorem dJ4_fixAfterInsertion_122 : decode cJ4_fixAfterInsertion 122 = .ok (.iconst 1, 1) := dk_4 (dk_at dksJ4_fixAfterInsertion_5 4 rfl rfl)
theorem dJ4_fixAfterInsertion_123 : decode cJ4_fixAfterInsertion 123 = .ok (.invokestatic 307, 3) := dk_184 1 51 (dk_at dksJ4_fixAfterInsertion_5 5 rfl rfl)
theorem dJ4_fixAfterInsertion_126 : decode cJ4_fixAfterInsertion 126 = .ok (.aload_n 1, 1) := dk_43 (dk_at dksJ4_fixAfterInsertion_5 8 rfl rfl)
theorem dJ4_fixAfterInsertion_127 : decode cJ4_fixAfterInsertion 127 = .ok (.invokestatic 294, 3) := dk_184 1 38 (dk_at dksJ4_fixAfterInsertion_5 9 rfl rfl)
theorem dJ4_fixAfterInsertion_130 : decode cJ4_fixAfterInsertion 130 = .ok (.invokestatic 294, 3) := dk_184 1 38 (dk_at dksJ4_fixAfterInsertion_5 12 rfl rfl)
theorem dJ4_fixAfterInsertion_133 : decode cJ4_fixAfterInsertion 133 = .ok (.iconst 0, 1) := dk_3 (dk_at dksJ4_fixAfterInsertion_5 15 rfl rfl)
theorem dJ4_fixAfterInsertion_134 : decode cJ4_fixAfterInsertion 134 = .ok (.invokestatic 307, 3) := dk_184 1 51 (dk_at dksJ4_fixAfterInsertion_5 16 rfl rfl)
theorem dJ4_fixAfterInsertion_137 : decode cJ4_fixAfterInsertion 137 = .ok (.aload_n 0, 1) := dk_42 (dk_at dksJ4_fixAfterInsertion_5 19 rfl rfl)
theorem dJ4_fixAfterInsertion_138 : decode cJ4_fixAfterInsertion 138 = .ok (.aload_n 1, 1) := dk_43 (dk_at dksJ4_fixAfterInsertion_5 20 rfl rfl)
theorem dJ4_fixAfterInsertion_139 : decode cJ4_fixAfterInsertion 139 = .ok (.invokestatic 294, 3) := dk_184 1 38 (dk_at dksJ4_fixAfterInsertion_5 21 rfl rfl)
theorem dJ4_fixAfterInsertion_142 : decode cJ4_fixAfterInsertion 142 = .ok (.invokestatic 294, 3) := dk_184 1 38 (dk_at dksJ4_fixAfterInsertion_6 0 rfl rfl)
theorem dJ4_fixAfterInsertion_145 : decode cJ4_fixAfterInsertion 145 = .ok (.invokevirtual 314, 3) := dk_182 1 58 (dk_at dksJ4_fixAfterInsertion_6 3 rfl rfl)
theorem dJ4_fixAfterInsertion_148 : decode cJ4_fixAfterInsertion 148 = .ok (.goto (-143), 3) := dk_167 255 113 (dk_at dksJ4_fixAfterInsertion_6 6 rfl rfl)
theorem dJ4_fixAfterInsertion_151 : decode cJ4_fixAfterInsertion 151 = .ok (.aload_n 1, 1) := dk_43 (dk_at dksJ4_fixAfterInsertion_6 9 rfl rfl)
theorem dJ4_fixAfterInsertion_152 : decode cJ4_fixAfterInsertion 152 = .ok (.invokestatic 294, 3) := dk_184 1 38 (dk_at dksJ4_fixAfterInsertion_6 10 rfl rfl)
theorem dJ4_fixAfterInsertion_155 : decode cJ4_fixAfterInsertion 155 = .ok (.invokestatic 294, 3) := dk_184 1 38 (dk_at dksJ4_fixAfterInsertion_6 13 rfl rfl)
theorem dJ4_fixAfterInsertion_158 : decode cJ4_fixAfterInsertion 158 = .ok (.invokestatic 297, 3) := dk_184 1 41 (dk_at dksJ4_fixAfterInsertion_6 16 rfl rfl)
theorem dJ4_fixAfterInsertion_161 : decode cJ4_fixAfterInsertion 161 = .ok (.astore_n 2, 1) := dk_77 (dk_at dksJ4_fixAfterInsertion_6 19 rfl rfl)
theorem dJ4_fixAfterInsertion_162 : decode cJ4_fixAfterInsertion 162 = .ok (.aload_n 2, 1) := dk_44 (dk_at dksJ4_fixAfterInsertion_6 20 rfl rfl)
theorem dJ4_fixAfterInsertion_163 : decode cJ4_fixAfterInsertion 163 = .ok (.invokestatic 303, 3) := dk_184 1 47 (dk_at dksJ4_fixAfterInsertion_6 21 rfl rfl)
theorem dJ4_fixAfterInsertion_166 : decode cJ4_fixAfterInsertion 166 = .ok (.ifCond .ne 38, 3) := dk_154 0 38 (dk_at dksJ4_fixAfterInsertion_7 0 rfl rfl)
theorem dJ4_fixAfterInsertion_169 : decode cJ4_fixAfterInsertion 169 = .ok (.aload_n 1, 1) := dk_43 (dk_at dksJ4_fixAfterInsertion_7 3 rfl rfl)
theorem dJ4_fixAfterInsertion_170 : decode cJ4_fixAfterInsertion 170 = .ok (.invokestatic 294, 3) := dk_184 1 38 (dk_at dksJ4_fixAfterInsertion_7 4 rfl rfl)
theorem dJ4_fixAfterInsertion_173 : decode cJ4_fixAfterInsertion 173 = .ok (.iconst 1, 1) := dk_4 (dk_at dksJ4_fixAfterInsertion_7 7 rfl rfl)
theorem dJ4_fixAfterInsertion_174 : decode cJ4_fixAfterInsertion 174 = .ok (.invokestatic 307, 3) := dk_184 1 51 (dk_at dksJ4_fixAfterInsertion_7 8 rfl rfl)
theorem dJ4_fixAfterInsertion_177 : decode cJ4_fixAfterInsertion 177 = .ok (.aload_n 2, 1) := dk_44 (dk_at dksJ4_fixAfterInsertion_7 11 rfl rfl)
theorem dJ4_fixAfterInsertion_178 : decode cJ4_fixAfterInsertion 178 = .ok (.iconst 1, 1) := dk_4 (dk_at dksJ4_fixAfterInsertion_7 12 rfl rfl)
theorem dJ4_fixAfterInsertion_179 : decode cJ4_fixAfterInsertion 179 = .ok (.invokestatic 307, 3) := dk_184 1 51 (dk_at dksJ4_fixAfterInsertion_7 13 rfl rfl)
theorem dJ4_fixAfterInsertion_182 : decode cJ4_fixAfterInsertion 182 = .ok (.aload_n 1, 1) := dk_43 (dk_at dksJ4_fixAfterInsertion_7 16 rfl rfl)
theorem dJ4_fixAfterInsertion_183 : decode cJ4_fixAfterInsertion 183 = .ok (.invokestatic 294, 3) := dk_184 1 38 (dk_at dksJ4_fixAfterInsertion_7 17 rfl rfl)
theorem dJ4_fixAfterInsertion_186 : decode cJ4_fixAfterInsertion 186 = .ok (.invokestatic 294, 3) := dk_184 1 38 (dk_at dksJ4_fixAfterInsertion_7 20 rfl rfl)
theorem dJ4_fixAfterInsertion_189 : decode cJ4_fixAfterInsertion 189 = .ok (.iconst 0, 1) := dk_3 (dk_at dksJ4_fixAfterInsertion_7 23 rfl rfl)
theorem dJ4_fixAfterInsertion_190 : decode cJ4_fixAfterInsertion 190 = .ok (.invokestatic 307, 3) := dk_184 1 51 (dk_at dksJ4_fixAfterInsertion_8 0 rfl rfl)
theorem dJ4_fixAfterInsertion_193 : decode cJ4_fixAfterInsertion 193 = .ok (.aload_n 1, 1) := dk_43 (dk_at dksJ4_fixAfterInsertion_8 3 rfl rfl)
theorem dJ4_fixAfterInsertion_194 : decode cJ4_fixAfterInsertion 194 = .ok (.invokestatic 294, 3) := dk_184 1 38 (dk_at dksJ4_fixAfterInsertion_8 4 rfl rfl)
theorem dJ4_fixAfterInsertion_197 : decode cJ4_fixAfterInsertion 197 = .ok (.invokestatic 294, 3) := dk_184 1 38 (dk_at dksJ4_fixAfterInsertion_8 7 rfl rfl)
theorem dJ4_fixAfterInsertion_200 : decode cJ4_fixAfterInsertion 200 = .ok (.astore_n 1, 1) := dk_76 (dk_at dksJ4_fixAfterInsertion_8 10 rfl rfl)
theorem dJ4_fixAfterInsertion_201 : decode cJ4_fixAfterInsertion 201 = .ok (.goto 54, 3) := dk_167 0 54 (dk_at dksJ4_fixAfterInsertion_8 11 rfl rfl)
theorem dJ4_fixAfterInsertion_204 : decode cJ4_fixAfterInsertion 204 = .ok (.aload_n 1, 1) := dk_43 (dk_at dksJ4_fixAfterInsertion_8 14 rfl rfl)
theorem dJ4_fixAfterInsertion_205 : decode cJ4_fixAfterInsertion 205 = .ok (.aload_n 1, 1) := dk_43 (dk_at dksJ4_fixAfterInsertion_8 15 rfl rfl)
theorem dJ4_fixAfterInsertion_206 : decode cJ4_fixAfterInsertion 206 = .ok (.invokestatic 294, 3) := dk_184 1 38 (dk_at dksJ4_fixAfterInsertion_8 16 rfl rfl)
theorem dJ4_fixAfterInsertion_209 : decode cJ4_fixAfterInsertion 209 = .ok (.invokestatic 297, 3) := dk_184 1 41 (dk_at dksJ4_fixAfterInsertion_8 19 rfl rfl)
theorem dJ4_fixAfterInsertion_212 : decode cJ4_fixAfterInsertion 212 = .ok (.if_acmp .ne 13, 3) := dk_166 0 13 (dk_at dksJ4_fixAfterInsertion_9 0 rfl rfl)
theorem dJ4_fixAfterInsertion_215 : decode cJ4_fixAfterInsertion 215 = .ok (.aload_n 1, 1) := dk_43 (dk_at dksJ4_fixAfterInsertion_9 3 rfl rfl)
theorem dJ4_fixAfterInsertion_216 : decode cJ4_fixAfterInsertion 216 = .ok (.invokestatic 294, 3) := dk_184 1 38 (dk_at dksJ4_fixAfterInsertion_9 4 rfl rfl)
theorem dJ4_fixAfterInsertion_219 : decode cJ4_fixAfterInsertion 219 = .ok (.astore_n 1, 1) := dk_76 (dk_at dksJ4_fixAfterInsertion_9 7 rfl rfl)
theorem dJ4_fixAfterInsertion_220 : decode cJ4_fixAfterInsertion 220 = .ok (.aload_n 0, 1) := dk_42 (dk_at dksJ4_fixAfterInsertion_9 8 rfl rfl)
theorem dJ4_fixAfterInsertion_221 : decode cJ4_fixAfterInsertion 221 = .ok (.aload_n 1, 1) := dk_43 (dk_at dksJ4_fixAfterInsertion_9 9 rfl rfl)
theorem dJ4_fixAfterInsertion_222 : decode cJ4_fixAfterInsertion 222 = .ok (.invokevirtual 314, 3) := dk_182 1 58 (dk_at dksJ4_fixAfterInsertion_9 10 rfl rfl)
theorem dJ4_fixAfterInsertion_225 : decode cJ4_fixAfterInsertion 225 = .ok (.aload_n 1, 1) := dk_43 (dk_at dksJ4_fixAfterInsertion_9 13 rfl rfl)
theorem dJ4_fixAfterInsertion_226 : decode cJ4_fixAfterInsertion 226 = .ok (.invokestatic 294, 3) := dk_184 1 38 (dk_at dksJ4_fixAfterInsertion_9 14 rfl rfl)
theorem dJ4_fixAfterInsertion_229 : decode cJ4_fixAfterInsertion 229 = .ok (.iconst 1, 1) := dk_4 (dk_at dksJ4_fixAfterInsertion_9 17 rfl rfl)
theorem dJ4_fixAfterInsertion_230 : decode cJ4_fixAfterInsertion 230 = .ok (.invokestatic 307, 3) := dk_184 1 51 (dk_at dksJ4_fixAfterInsertion_9 18 rfl rfl)
theorem dJ4_fixAfterInsertion_233 : decode cJ4_fixAfterInsertion 233 = .ok (.aload_n 1, 1) := dk_43 (dk_at dksJ4_fixAfterInsertion_9 21 rfl rfl)
theorem dJ4_fixAfterInsertion_234 : decode cJ4_fixAfterInsertion 234 = .ok (.invokestatic 294, 3) := dk_184 1 38 (dk_at dksJ4_fixAfterInsertion_10 0 rfl rfl)
theorem dJ4_fixAfterInsertion_237 : decode cJ4_fixAfterInsertion 237 = .ok (.invokestatic 294, 3) := dk_184 1 38 (dk_at dksJ4_fixAfterInsertion_10 3 rfl rfl)
theorem dJ4_fixAfterInsertion_240 : decode cJ4_fixAfterInsertion 240 = .ok (.iconst 0, 1) := dk_3 (dk_at dksJ4_fixAfterInsertion_10 6 rfl rfl)
theorem dJ4_fixAfterInsertion_241 : decode cJ4_fixAfterInsertion 241 = .ok (.invokestatic 307, 3) := dk_184 1 51 (dk_at dksJ4_fixAfterInsertion_10 7 rfl rfl)
theorem dJ4_fixAfterInsertion_244 : decode cJ4_fixAfterInsertion 244 = .ok (.aload_n 0, 1) := dk_42 (dk_at dksJ4_fixAfterInsertion_10 10 rfl rfl)
theorem dJ4_fixAfterInsertion_245 : decode cJ4_fixAfterInsertion 245 = .ok (.aload_n 1, 1) := dk_43 (dk_at dksJ4_fixAfterInsertion_10 11 rfl rfl)
theorem dJ4_fixAfterInsertion_246 : decode cJ4_fixAfterInsertion 246 = .ok (.invokestatic 294, 3) := dk_184 1 38 (dk_at dksJ4_fixAfterInsertion_10 12 rfl rfl)
theorem dJ4_fixAfterInsertion_249 : decode cJ4_fixAfterInsertion 249 = .ok (.invokestatic 294, 3) := dk_184 1 38 (dk_at dksJ4_fixAfterInsertion_10 15 rfl rfl)
theorem dJ4_fixAfterInsertion_252 : decode cJ4_fixAfterInsertion 252 = .ok (.invokevirtual 311, 3) := dk_182 1 55 (dk_at dksJ4_fixAfterInsertion_10 18 rfl rfl)
theorem dJ4_fixAfterInsertion_255 : decode cJ4_fixAfterInsertion 255 = .ok (.goto (-250), 3) := dk_167 255 6 (dk_at dksJ4_fixAfterInsertion_10 21 rfl rfl)
theorem dJ4_fixAfterInsertion_258 : decode cJ4_fixAfterInsertion 258 = .ok (.aload_n 0, 1) := dk_42 (dk_at dksJ4_fixAfterInsertion_11 0 rfl rfl)
theorem dJ4_fixAfterInsertion_259 : decode cJ4_fixAfterInsertion 259 = .ok (.getfield 101, 3) := dk_180 0 101 (dk_at dksJ4_fixAfterInsertion_11 1 rfl rfl)
theorem dJ4_fixAfterInsertion_262 : decode cJ4_fixAfterInsertion 262 = .ok (.iconst 1, 1) := dk_4 (dk_at dksJ4_fixAfterInsertion_11 4 rfl rfl)
theorem dJ4_fixAfterInsertion_263 : decode cJ4_fixAfterInsertion 263 = .ok (.putfield 290, 3) := dk_181 1 34 (dk_at dksJ4_fixAfterInsertion_11 5 rfl rfl)
theorem dJ4_fixAfterInsertion_266 : decode cJ4_fixAfterInsertion 266 = .ok (.return_, 1) := dk_177 (dk_at dksJ4_fixAfterInsertion_11 8 rfl rfl)
abbrev cJ4_containsKey : ByteArray := prog_55_method_6_code
def yJ4_containsKey : MethodName := ⟨RJ4, "containsKey", "(Ljava/lang/Object;)Z"⟩
def dkwJ4_containsKey_0 : List UInt8 := [42, 43, 182, 0, 50, 198, 0, 7, 4, 167, 0, 4, 3, 172]
abbrev dktJ4_containsKey_0 : List UInt8 := dkwJ4_containsKey_0 ++ []
theorem dksJ4_containsKey_0 : cJ4_containsKey.data.toList.drop 0 = dktJ4_containsKey_0 := by decide +kernel
theorem dJ4_containsKey_0 : decode cJ4_containsKey 0 = .ok (.aload_n 0, 1) := dk_42 (dk_at dksJ4_containsKey_0 0 rfl rfl)
theorem dJ4_containsKey_1 : decode cJ4_containsKey 1 = .ok (.aload_n 1, 1) := dk_43 (dk_at dksJ4_containsKey_0 1 rfl rfl)
theorem dJ4_containsKey_2 : decode cJ4_containsKey 2 = .ok (.invokevirtual 50, 3) := dk_182 0 50 (dk_at dksJ4_containsKey_0 2 rfl rfl)
theorem dJ4_containsKey_5 : decode cJ4_containsKey 5 = .ok (.ifnull 7, 3) := dk_198 0 7 (dk_at dksJ4_containsKey_0 5 rfl rfl)
theorem dJ4_containsKey_8 : decode cJ4_containsKey 8 = .ok (.iconst 1, 1) := dk_4 (dk_at dksJ4_containsKey_0 8 rfl rfl)
theorem dJ4_containsKey_9 : decode cJ4_containsKey 9 = .ok (.goto 4, 3) := dk_167 0 4 (dk_at dksJ4_containsKey_0 9 rfl rfl)
theorem dJ4_containsKey_12 : decode cJ4_containsKey 12 = .ok (.iconst 0, 1) := dk_3 (dk_at dksJ4_containsKey_0 12 rfl rfl)
theorem dJ4_containsKey_13 : decode cJ4_containsKey 13 = .ok (.ireturn, 1) := dk_172 (dk_at dksJ4_containsKey_0 13 rfl rfl)
abbrev cJ4_firstKey : ByteArray := prog_55_method_10_code
def yJ4_firstKey : MethodName := ⟨RJ4, "firstKey", "()Ljava/lang/Object;"⟩
def dkwJ4_firstKey_0 : List UInt8 := [42, 182, 0, 54, 184, 0, 72, 176]
abbrev dktJ4_firstKey_0 : List UInt8 := dkwJ4_firstKey_0 ++ []
theorem dksJ4_firstKey_0 : cJ4_firstKey.data.toList.drop 0 = dktJ4_firstKey_0 := by decide +kernel
theorem dJ4_firstKey_0 : decode cJ4_firstKey 0 = .ok (.aload_n 0, 1) := dk_42 (dk_at dksJ4_firstKey_0 0 rfl rfl)
theorem dJ4_firstKey_1 : decode cJ4_firstKey 1 = .ok (.invokevirtual 54, 3) := dk_182 0 54 (dk_at dksJ4_firstKey_0 1 rfl rfl)
theorem dJ4_firstKey_4 : decode cJ4_firstKey 4 = .ok (.invokestatic 72, 3) := dk_184 0 72 (dk_at dksJ4_firstKey_0 4 rfl rfl)
theorem dJ4_firstKey_7 : decode cJ4_firstKey 7 = .ok (.areturn, 1) := dk_176 (dk_at dksJ4_firstKey_0 7 rfl rfl)
abbrev cJ4_getFirstEntry : ByteArray := prog_55_method_72_code
def yJ4_getFirstEntry : MethodName := ⟨RJ4, "getFirstEntry", "()Ljava/util/TreeMap$Entry;"⟩
def dkwJ4_getFirstEntry_1 : List UInt8 := [43, 176]
abbrev dktJ4_getFirstEntry_1 : List UInt8 := dkwJ4_getFirstEntry_1 ++ []
def dkwJ4_getFirstEntry_0 : List UInt8 := [42, 180, 0, 101, 76, 43, 198, 0, 18, 43, 180, 0, 111, 198, 0, 11, 43, 180, 0, 111, 76, 167, 255, 244]
abbrev dktJ4_getFirstEntry_0 : List UInt8 := dkwJ4_getFirstEntry_0 ++ dktJ4_getFirstEntry_1
theorem dksJ4_getFirstEntry_0 : cJ4_getFirstEntry.data.toList.drop 0 = dktJ4_getFirstEntry_0 := by decide +kernel
theorem dksJ4_getFirstEntry_1 : cJ4_getFirstEntry.data.toList.drop 24 = dktJ4_getFirstEntry_1 := dk_seg dksJ4_getFirstEntry_0 24 rfl rfl
theorem dJ4_getFirstEntry_0 : decode cJ4_getFirstEntry 0 = .ok (.aload_n 0, 1) := dk_42 (dk_at dksJ4_getFirstEntry_0 0 rfl rfl)
theorem dJ4_getFirstEntry_1 : decode cJ4_getFirstEntry 1 = .ok (.getfield 101, 3) := dk_180 0 101 (dk_at dksJ4_getFirstEntry_0 1 rfl rfl)
theorem dJ4_getFirstEntry_4 : decode cJ4_getFirstEntry 4 = .ok (.astore_n 1, 1) := dk_76 (dk_at dksJ4_getFirstEntry_0 4 rfl rfl)
theorem dJ4_getFirstEntry_5 : decode cJ4_getFirstEntry 5 = .ok (.aload_n 1, 1) := dk_43 (dk_at dksJ4_getFirstEntry_0 5 rfl rfl)
theorem dJ4_getFirstEntry_6 : decode cJ4_getFirstEntry 6 = .ok (.ifnull 18, 3) := dk_198 0 18 (dk_at dksJ4_getFirstEntry_0 6 rfl rfl)
theorem dJ4_getFirstEntry_9 : decode cJ4_getFirstEntry 9 = .ok (.aload_n 1, 1) := dk_43 (dk_at dksJ4_getFirstEntry_0 9 rfl rfl)
theorem dJ4_getFirstEntry_10 : decode cJ4_getFirstEntry 10 = .ok (.getfield 111, 3) := dk_180 0 111 (dk_at dksJ4_getFirstEntry_0 10 rfl rfl)
theorem dJ4_getFirstEntry_13 : decode cJ4_getFirstEntry 13 = .ok (.ifnull 11, 3) := dk_198 0 11 (dk_at dksJ4_getFirstEntry_0 13 rfl rfl)
theorem dJ4_getFirstEntry_16 : decode cJ4_getFirstEntry 16 = .ok (.aload_n 1, 1) := dk_43 (dk_at dksJ4_getFirstEntry_0 16 rfl rfl)
theorem dJ4_getFirstEntry_17 : decode cJ4_getFirstEntry 17 = .ok (.getfield 111, 3) := dk_180 0 111 (dk_at dksJ4_getFirstEntry_0 17 rfl rfl)
theorem dJ4_getFirstEntry_20 : decode cJ4_getFirstEntry 20 = .ok (.astore_n 1, 1) := dk_76 (dk_at dksJ4_getFirstEntry_0 20 rfl rfl)
theorem dJ4_getFirstEntry_21 : decode cJ4_getFirstEntry 21 = .ok (.goto (-12), 3) := dk_167 255 244 (dk_at dksJ4_getFirstEntry_0 21 rfl rfl)
theorem dJ4_getFirstEntry_24 : decode cJ4_getFirstEntry 24 = .ok (.aload_n 1, 1) := dk_43 (dk_at dksJ4_getFirstEntry_1 0 rfl rfl)
theorem dJ4_getFirstEntry_25 : decode cJ4_getFirstEntry 25 = .ok (.areturn, 1) := dk_176 (dk_at dksJ4_getFirstEntry_1 1 rfl rfl)
abbrev cJ4_key : ByteArray := prog_55_method_71_code
def yJ4_key : MethodName := ⟨RJ4, "key", "(Ljava/util/TreeMap$Entry;)Ljava/lang/Object;"⟩
def dkwJ4_key_0 : List UInt8 := [42, 199, 0, 11, 187, 1, 31, 89, 183, 1, 33, 191, 42, 180, 0, 105, 176]
abbrev dktJ4_key_0 : List UInt8 := dkwJ4_key_0 ++ []
theorem dksJ4_key_0 : cJ4_key.data.toList.drop 0 = dktJ4_key_0 := by decide +kernel
theorem dJ4_key_0 : decode cJ4_key 0 = .ok (.aload_n 0, 1) := dk_42 (dk_at dksJ4_key_0 0 rfl rfl)
theorem dJ4_key_1 : decode cJ4_key 1 = .ok (.ifnonnull 11, 3) := dk_199 0 11 (dk_at dksJ4_key_0 1 rfl rfl)
theorem dJ4_key_4 : decode cJ4_key 4 = .ok (.new 287, 3) := dk_187 1 31 (dk_at dksJ4_key_0 4 rfl rfl)
theorem dJ4_key_7 : decode cJ4_key 7 = .ok (.dup, 1) := dk_89 (dk_at dksJ4_key_0 7 rfl rfl)
theorem dJ4_key_8 : decode cJ4_key 8 = .ok (.invokespecial 289, 3) := dk_183 1 33 (dk_at dksJ4_key_0 8 rfl rfl)
theorem dJ4_key_11 : decode cJ4_key 11 = .ok (.athrow, 1) := dk_191 (dk_at dksJ4_key_0 11 rfl rfl)
theorem dJ4_key_12 : decode cJ4_key 12 = .ok (.aload_n 0, 1) := dk_42 (dk_at dksJ4_key_0 12 rfl rfl)
theorem dJ4_key_13 : decode cJ4_key 13 = .ok (.getfield 105, 3) := dk_180 0 105 (dk_at dksJ4_key_0 13 rfl rfl)
theorem dJ4_key_16 : decode cJ4_key 16 = .ok (.areturn, 1) := dk_176 (dk_at dksJ4_key_0 16 rfl rfl)
abbrev cJ4_firstEntry : ByteArray := prog_55_method_37_code
def yJ4_firstEntry : MethodName := ⟨RJ4, "firstEntry", "()Ljava/util/Map$Entry;"⟩
def dkwJ4_firstEntry_0 : List UInt8 := [42, 182, 0, 54, 184, 0, 200, 176]
abbrev dktJ4_firstEntry_0 : List UInt8 := dkwJ4_firstEntry_0 ++ []
theorem dksJ4_firstEntry_0 : cJ4_firstEntry.data.toList.drop 0 = dktJ4_firstEntry_0 := by decide +kernel
theorem dJ4_firstEntry_0 : decode cJ4_firstEntry 0 = .ok (.aload_n 0, 1) := dk_42 (dk_at dksJ4_firstEntry_0 0 rfl rfl)
theorem dJ4_firstEntry_1 : decode cJ4_firstEntry 1 = .ok (.invokevirtual 54, 3) := dk_182 0 54 (dk_at dksJ4_firstEntry_0 1 rfl rfl)
theorem dJ4_firstEntry_4 : decode cJ4_firstEntry 4 = .ok (.invokestatic 200, 3) := dk_184 0 200 (dk_at dksJ4_firstEntry_0 4 rfl rfl)
theorem dJ4_firstEntry_7 : decode cJ4_firstEntry 7 = .ok (.areturn, 1) := dk_176 (dk_at dksJ4_firstEntry_0 7 rfl rfl)
abbrev cJ4_exportEntry : ByteArray := prog_55_method_69_code
def yJ4_exportEntry : MethodName := ⟨RJ4, "exportEntry", "(Ljava/util/TreeMap$Entry;)Ljava/util/Map$Entry;"⟩
def dkwJ4_exportEntry_0 : List UInt8 := [42, 199, 0, 7, 1, 167, 0, 11, 187, 1, 26, 89, 42, 183, 1, 28, 176]
abbrev dktJ4_exportEntry_0 : List UInt8 := dkwJ4_exportEntry_0 ++ []
theorem dksJ4_exportEntry_0 : cJ4_exportEntry.data.toList.drop 0 = dktJ4_exportEntry_0 := by decide +kernel
theorem dJ4_exportEntry_0 : decode cJ4_exportEntry 0 = .ok (.aload_n 0, 1) := dk_42 (dk_at dksJ4_exportEntry_0 0 rfl rfl)
theorem dJ4_exportEntry_1 : decode cJ4_exportEntry 1 = .ok (.ifnonnull 7, 3) := dk_199 0 7 (dk_at dksJ4_exportEntry_0 1 rfl rfl)
theorem dJ4_exportEntry_4 : decode cJ4_exportEntry 4 = .ok (.aconst_null, 1) := dk_1 (dk_at dksJ4_exportEntry_0 4 rfl rfl)
theorem dJ4_exportEntry_5 : decode cJ4_exportEntry 5 = .ok (.goto 11, 3) := dk_167 0 11 (dk_at dksJ4_exportEntry_0 5 rfl rfl)
theorem dJ4_exportEntry_8 : decode cJ4_exportEntry 8 = .ok (.new 282, 3) := dk_187 1 26 (dk_at dksJ4_exportEntry_0 8 rfl rfl)
theorem dJ4_exportEntry_11 : decode cJ4_exportEntry 11 = .ok (.dup, 1) := dk_89 (dk_at dksJ4_exportEntry_0 11 rfl rfl)
theorem dJ4_exportEntry_12 : decode cJ4_exportEntry 12 = .ok (.aload_n 0, 1) := dk_42 (dk_at dksJ4_exportEntry_0 12 rfl rfl)
theorem dJ4_exportEntry_13 : decode cJ4_exportEntry 13 = .ok (.invokespecial 284, 3) := dk_183 1 28 (dk_at dksJ4_exportEntry_0 13 rfl rfl)
theorem dJ4_exportEntry_16 : decode cJ4_exportEntry 16 = .ok (.areturn, 1) := dk_176 (dk_at dksJ4_exportEntry_0 16 rfl rfl)
theorem q64 : (Jvm.Cond.initialized "java/util/TreeMap") ∈ lw_all := lw_g (lw_at lw_m1 7 rfl) rfl
theorem q153 : (Jvm.Cond.instantiable "java/util/TreeMap" (9 : Nat)) ∈ lw_all := lw_g (lw_at lw_m1 96 rfl) rfl
theorem q155 : (Jvm.Cond.instanceMethod ({ cls := "java/util/TreeMap", name := "<init>", desc := "()V" } : Jvm.MethodName)) ∈ lw_all := lw_g (lw_at lw_m1 98 rfl) rfl
theorem q156 : (Jvm.Cond.code ({ cls := "java/util/TreeMap", name := "<init>", desc := "()V" } : Jvm.MethodName) prog_55_method_1_code (1 : Nat) (Option.none : Option Jvm.ClassFile.FieldType)) ∈ lw_all := lw_g (lw_at lw_m1 99 rfl) rfl
theorem q157 : (Jvm.Cond.methodLink "java/util/TreeMap" (1 : Nat) ({ cls := "java/util/AbstractMap", name := "<init>", desc := "()V" } : Jvm.MethodName)) ∈ lw_all := lw_g (lw_at lw_m1 100 rfl) rfl
theorem q161 : (Jvm.Cond.fieldLink "java/util/TreeMap" (16 : Nat) "java/util/TreeMap" "comparator" "Ljava/util/Comparator;") ∈ lw_all := lw_g (lw_at lw_m1 104 rfl) rfl
theorem q162 : (Jvm.Cond.fieldLink "java/util/TreeMap" (101 : Nat) "java/util/TreeMap" "root" "Ljava/util/TreeMap$Entry;") ∈ lw_all := lw_g (lw_at lw_m1 105 rfl) rfl
theorem q163 : (Jvm.Cond.fieldLink "java/util/TreeMap" (7 : Nat) "java/util/TreeMap" "size" "I") ∈ lw_all := lw_g (lw_at lw_m1 106 rfl) rfl
theorem q164 : (Jvm.Cond.fieldLink "java/util/TreeMap" (13 : Nat) "java/util/TreeMap" "modCount" "I") ∈ lw_all := lw_g (lw_at lw_m1 107 rfl) rfl
theorem q165 : (Jvm.Cond.fieldLink "java/util/TreeMap" (188 : Nat) "java/util/TreeMap" "entrySet" "Ljava/util/TreeMap$EntrySet;") ∈ lw_all := lw_g (lw_at lw_m1 108 rfl) rfl
theorem q166 : (Jvm.Cond.laysFinal "java/util/TreeMap" "java/util/TreeMap" "comparator" "Ljava/util/Comparator;") ∈ lw_all := lw_g (lw_at lw_m1 109 rfl) rfl
theorem q167 : (Jvm.Cond.soleField "java/util/TreeMap" "comparator") ∈ lw_all := lw_g (lw_at lw_m1 110 rfl) rfl
theorem q168 : (Jvm.Cond.lays "java/util/TreeMap" "java/util/TreeMap" "root" "Ljava/util/TreeMap$Entry;") ∈ lw_all := lw_g (lw_at lw_m1 111 rfl) rfl
theorem q169 : (Jvm.Cond.soleField "java/util/TreeMap" "root") ∈ lw_all := lw_g (lw_at lw_m1 112 rfl) rfl
theorem q170 : (Jvm.Cond.lays "java/util/TreeMap" "java/util/TreeMap" "size" "I") ∈ lw_all := lw_g (lw_at lw_m1 113 rfl) rfl
theorem q171 : (Jvm.Cond.soleField "java/util/TreeMap" "size") ∈ lw_all := lw_g (lw_at lw_m1 114 rfl) rfl
theorem q172 : (Jvm.Cond.lays "java/util/TreeMap" "java/util/TreeMap" "modCount" "I") ∈ lw_all := lw_g (lw_at lw_m1 115 rfl) rfl
theorem q173 : (Jvm.Cond.soleField "java/util/TreeMap" "modCount") ∈ lw_all := lw_g (lw_at lw_m1 116 rfl) rfl
theorem q174 : (Jvm.Cond.lays "java/util/TreeMap" "java/util/TreeMap" "entrySet" "Ljava/util/TreeMap$EntrySet;") ∈ lw_all := lw_g (lw_at lw_m1 117 rfl) rfl
theorem q175 : (Jvm.Cond.soleField "java/util/TreeMap" "entrySet") ∈ lw_all := lw_g (lw_at lw_m1 118 rfl) rfl
theorem q176 : (Jvm.Cond.lays "java/util/TreeMap" "java/util/TreeMap" "navigableKeySet" "Ljava/util/TreeMap$KeySet;") ∈ lw_all := lw_g (lw_at lw_m1 119 rfl) rfl
theorem q177 : (Jvm.Cond.soleField "java/util/TreeMap" "navigableKeySet") ∈ lw_all := lw_g (lw_at lw_m1 120 rfl) rfl
theorem q178 : (Jvm.Cond.lays "java/util/TreeMap" "java/util/TreeMap" "descendingMap" "Ljava/util/NavigableMap;") ∈ lw_all := lw_g (lw_at lw_m1 121 rfl) rfl
theorem q179 : (Jvm.Cond.soleField "java/util/TreeMap" "descendingMap") ∈ lw_all := lw_g (lw_at lw_m1 122 rfl) rfl
theorem q180 : (Jvm.Cond.lays "java/util/TreeMap" "java/util/AbstractMap" "keySet" "Ljava/util/Set;") ∈ lw_all := lw_g (lw_at lw_m1 123 rfl) rfl
theorem q182 : (Jvm.Cond.lays "java/util/TreeMap" "java/util/AbstractMap" "values" "Ljava/util/Collection;") ∈ lw_all := lw_g (lw_at lw_m1 125 rfl) rfl
theorem q184 : (Jvm.Cond.superclass "java/util/TreeMap" "java/util/AbstractMap") ∈ lw_all := lw_g (lw_at lw_m1 127 rfl) rfl
theorem q619 : (Jvm.Cond.instanceMethod ({ cls := "java/util/TreeMap", name := "remove", desc := "(Ljava/lang/Object;)Ljava/lang/Object;" } : Jvm.MethodName)) ∈ lw_all := lw_g (lw_at lw_m3 82 rfl) rfl
theorem q620 : (Jvm.Cond.selects "java/util/TreeMap" ({ cls := "java/util/TreeMap", name := "remove", desc := "(Ljava/lang/Object;)Ljava/lang/Object;" } : Jvm.MethodName) ({ cls := "java/util/TreeMap", name := "remove", desc := "(Ljava/lang/Object;)Ljava/lang/Object;" } : Jvm.MethodName)) ∈ lw_all := lw_g (lw_at lw_m3 83 rfl) rfl
theorem q621 : (Jvm.Cond.code ({ cls := "java/util/TreeMap", name := "remove", desc := "(Ljava/lang/Object;)Ljava/lang/Object;" } : Jvm.MethodName) prog_55_method_34_code (4 : Nat) (Option.some (Jvm.ClassFile.FieldType.object "java/lang/Object"))) ∈ lw_all := lw_g (lw_at lw_m3 84 rfl) rfl
theorem q622 : (Jvm.Cond.methodLink "java/util/TreeMap" (50 : Nat) ({ cls := "java/util/TreeMap", name := "getEntry", desc := "(Ljava/lang/Object;)Ljava/util/TreeMap$Entry;" } : Jvm.MethodName)) ∈ lw_all := lw_g (lw_at lw_m3 85 rfl) rfl
theorem q623 : (Jvm.Cond.instanceMethod ({ cls := "java/util/TreeMap", name := "getEntry", desc := "(Ljava/lang/Object;)Ljava/util/TreeMap$Entry;" } : Jvm.MethodName)) ∈ lw_all := lw_g (lw_at lw_m3 86 rfl) rfl
theorem q624 : (Jvm.Cond.selects "java/util/TreeMap" ({ cls := "java/util/TreeMap", name := "getEntry", desc := "(Ljava/lang/Object;)Ljava/util/TreeMap$Entry;" } : Jvm.MethodName) ({ cls := "java/util/TreeMap", name := "getEntry", desc := "(Ljava/lang/Object;)Ljava/util/TreeMap$Entry;" } : Jvm.MethodName)) ∈ lw_all := lw_g (lw_at lw_m3 87 rfl) rfl
theorem q625 : (Jvm.Cond.code ({ cls := "java/util/TreeMap", name := "getEntry", desc := "(Ljava/lang/Object;)Ljava/util/TreeMap$Entry;" } : Jvm.MethodName) prog_55_method_15_code (5 : Nat) (Option.some (Jvm.ClassFile.FieldType.object "java/util/TreeMap$Entry"))) ∈ lw_all := lw_g (lw_at lw_m3 88 rfl) rfl
theorem q626 : (Jvm.Cond.methodLink "java/util/TreeMap" (92 : Nat) ({ cls := "java/util/TreeMap", name := "getEntryUsingComparator", desc := "(Ljava/lang/Object;)Ljava/util/TreeMap$Entry;" } : Jvm.MethodName)) ∈ lw_all := lw_g (lw_at lw_m3 89 rfl) rfl
theorem q627 : (Jvm.Cond.instanceMethod ({ cls := "java/util/TreeMap", name := "getEntryUsingComparator", desc := "(Ljava/lang/Object;)Ljava/util/TreeMap$Entry;" } : Jvm.MethodName)) ∈ lw_all := lw_g (lw_at lw_m3 90 rfl) rfl
theorem q628 : (Jvm.Cond.selects "java/util/TreeMap" ({ cls := "java/util/TreeMap", name := "getEntryUsingComparator", desc := "(Ljava/lang/Object;)Ljava/util/TreeMap$Entry;" } : Jvm.MethodName) ({ cls := "java/util/TreeMap", name := "getEntryUsingComparator", desc := "(Ljava/lang/Object;)Ljava/util/TreeMap$Entry;" } : Jvm.MethodName)) ∈ lw_all := lw_g (lw_at lw_m3 91 rfl) rfl
theorem q629 : (Jvm.Cond.code ({ cls := "java/util/TreeMap", name := "getEntryUsingComparator", desc := "(Ljava/lang/Object;)Ljava/util/TreeMap$Entry;" } : Jvm.MethodName) prog_55_method_16_code (6 : Nat) (Option.some (Jvm.ClassFile.FieldType.object "java/util/TreeMap$Entry"))) ∈ lw_all := lw_g (lw_at lw_m3 92 rfl) rfl
theorem q630 : (Jvm.Cond.interfaceEntry "java/util/TreeMap" (117 : Nat)) ∈ lw_tbl := lw_at lw_m3 93 rfl
theorem q631 : (Jvm.Cond.methodLink "java/util/TreeMap" (117 : Nat) ({ cls := "java/util/Comparator", name := "compare", desc := "(Ljava/lang/Object;Ljava/lang/Object;)I" } : Jvm.MethodName)) ∈ lw_all := lw_g (lw_at lw_m3 94 rfl) rfl
theorem q648 : (Jvm.Cond.methodLink "java/util/TreeMap" (95 : Nat) ({ cls := "java/util/Objects", name := "requireNonNull", desc := "(Ljava/lang/Object;)Ljava/lang/Object;" } : Jvm.MethodName)) ∈ lw_all := lw_g (lw_at lw_m3 111 rfl) rfl
theorem q651 : (Jvm.Cond.classLink "java/util/TreeMap" (99 : Nat) "java/lang/Comparable") ∈ lw_all := lw_g (lw_at lw_m3 114 rfl) rfl
theorem q652 : (Jvm.Cond.interfaceEntry "java/util/TreeMap" (107 : Nat)) ∈ lw_tbl := lw_at lw_m3 115 rfl
theorem q653 : (Jvm.Cond.methodLink "java/util/TreeMap" (107 : Nat) ({ cls := "java/lang/Comparable", name := "compareTo", desc := "(Ljava/lang/Object;)I" } : Jvm.MethodName)) ∈ lw_all := lw_g (lw_at lw_m3 116 rfl) rfl
theorem q692 : (Jvm.Cond.methodLink "java/util/TreeMap" (174 : Nat) ({ cls := "java/util/TreeMap", name := "deleteEntry", desc := "(Ljava/util/TreeMap$Entry;)V" } : Jvm.MethodName)) ∈ lw_all := lw_g (lw_at lw_m3 155 rfl) rfl
theorem q693 : (Jvm.Cond.privateMethod ({ cls := "java/util/TreeMap", name := "deleteEntry", desc := "(Ljava/util/TreeMap$Entry;)V" } : Jvm.MethodName)) ∈ lw_tbl := lw_at lw_m3 156 rfl
theorem q694 : (Jvm.Cond.instanceMethod ({ cls := "java/util/TreeMap", name := "deleteEntry", desc := "(Ljava/util/TreeMap$Entry;)V" } : Jvm.MethodName)) ∈ lw_all := lw_g (lw_at lw_m3 157 rfl) rfl
theorem q695 : (Jvm.Cond.code ({ cls := "java/util/TreeMap", name := "deleteEntry", desc := "(Ljava/util/TreeMap$Entry;)V" } : Jvm.MethodName) prog_55_method_84_code (3 : Nat) (Option.none : Option Jvm.ClassFile.FieldType)) ∈ lw_all := lw_g (lw_at lw_m3 158 rfl) rfl
theorem q696 : (Jvm.Cond.methodLink "java/util/TreeMap" (68 : Nat) ({ cls := "java/util/TreeMap", name := "successor", desc := "(Ljava/util/TreeMap$Entry;)Ljava/util/TreeMap$Entry;" } : Jvm.MethodName)) ∈ lw_all := lw_g (lw_at lw_m3 159 rfl) rfl
theorem q697 : (Jvm.Cond.static ({ cls := "java/util/TreeMap", name := "successor", desc := "(Ljava/util/TreeMap$Entry;)Ljava/util/TreeMap$Entry;" } : Jvm.MethodName)) ∈ lw_all := lw_g (lw_at lw_m3 160 rfl) rfl
theorem q698 : (Jvm.Cond.code ({ cls := "java/util/TreeMap", name := "successor", desc := "(Ljava/util/TreeMap$Entry;)Ljava/util/TreeMap$Entry;" } : Jvm.MethodName) prog_55_method_74_code (3 : Nat) (Option.some (Jvm.ClassFile.FieldType.object "java/util/TreeMap$Entry"))) ∈ lw_all := lw_g (lw_at lw_m3 161 rfl) rfl
theorem q699 : (Jvm.Cond.methodLink "java/util/TreeMap" (317 : Nat) ({ cls := "java/util/TreeMap", name := "fixAfterDeletion", desc := "(Ljava/util/TreeMap$Entry;)V" } : Jvm.MethodName)) ∈ lw_all := lw_g (lw_at lw_m3 162 rfl) rfl
theorem q700 : (Jvm.Cond.privateMethod ({ cls := "java/util/TreeMap", name := "fixAfterDeletion", desc := "(Ljava/util/TreeMap$Entry;)V" } : Jvm.MethodName)) ∈ lw_tbl := lw_at lw_m3 163 rfl
theorem q701 : (Jvm.Cond.instanceMethod ({ cls := "java/util/TreeMap", name := "fixAfterDeletion", desc := "(Ljava/util/TreeMap$Entry;)V" } : Jvm.MethodName)) ∈ lw_all := lw_g (lw_at lw_m3 164 rfl) rfl
theorem q702 : (Jvm.Cond.code ({ cls := "java/util/TreeMap", name := "fixAfterDeletion", desc := "(Ljava/util/TreeMap$Entry;)V" } : Jvm.MethodName) prog_55_method_85_code (3 : Nat) (Option.none : Option Jvm.ClassFile.FieldType)) ∈ lw_all := lw_g (lw_at lw_m3 165 rfl) rfl
theorem q703 : (Jvm.Cond.methodLink "java/util/TreeMap" (303 : Nat) ({ cls := "java/util/TreeMap", name := "colorOf", desc := "(Ljava/util/TreeMap$Entry;)Z" } : Jvm.MethodName)) ∈ lw_all := lw_g (lw_at lw_m3 166 rfl) rfl
theorem q704 : (Jvm.Cond.static ({ cls := "java/util/TreeMap", name := "colorOf", desc := "(Ljava/util/TreeMap$Entry;)Z" } : Jvm.MethodName)) ∈ lw_all := lw_g (lw_at lw_m3 167 rfl) rfl
theorem q705 : (Jvm.Cond.code ({ cls := "java/util/TreeMap", name := "colorOf", desc := "(Ljava/util/TreeMap$Entry;)Z" } : Jvm.MethodName) prog_55_method_76_code (1 : Nat) (Option.some Jvm.ClassFile.FieldType.boolean)) ∈ lw_all := lw_g (lw_at lw_m3 168 rfl) rfl
theorem q706 : (Jvm.Cond.methodLink "java/util/TreeMap" (294 : Nat) ({ cls := "java/util/TreeMap", name := "parentOf", desc := "(Ljava/util/TreeMap$Entry;)Ljava/util/TreeMap$Entry;" } : Jvm.MethodName)) ∈ lw_all := lw_g (lw_at lw_m3 169 rfl) rfl
theorem q707 : (Jvm.Cond.static ({ cls := "java/util/TreeMap", name := "parentOf", desc := "(Ljava/util/TreeMap$Entry;)Ljava/util/TreeMap$Entry;" } : Jvm.MethodName)) ∈ lw_all := lw_g (lw_at lw_m3 170 rfl) rfl
theorem q708 : (Jvm.Cond.code ({ cls := "java/util/TreeMap", name := "parentOf", desc := "(Ljava/util/TreeMap$Entry;)Ljava/util/TreeMap$Entry;" } : Jvm.MethodName) prog_55_method_77_code (1 : Nat) (Option.some (Jvm.ClassFile.FieldType.object "java/util/TreeMap$Entry"))) ∈ lw_all := lw_g (lw_at lw_m3 171 rfl) rfl
theorem q709 : (Jvm.Cond.methodLink "java/util/TreeMap" (297 : Nat) ({ cls := "java/util/TreeMap", name := "leftOf", desc := "(Ljava/util/TreeMap$Entry;)Ljava/util/TreeMap$Entry;" } : Jvm.MethodName)) ∈ lw_all := lw_g (lw_at lw_m3 172 rfl) rfl
theorem q710 : (Jvm.Cond.static ({ cls := "java/util/TreeMap", name := "leftOf", desc := "(Ljava/util/TreeMap$Entry;)Ljava/util/TreeMap$Entry;" } : Jvm.MethodName)) ∈ lw_all := lw_g (lw_at lw_m3 173 rfl) rfl
theorem q711 : (Jvm.Cond.code ({ cls := "java/util/TreeMap", name := "leftOf", desc := "(Ljava/util/TreeMap$Entry;)Ljava/util/TreeMap$Entry;" } : Jvm.MethodName) prog_55_method_79_code (1 : Nat) (Option.some (Jvm.ClassFile.FieldType.object "java/util/TreeMap$Entry"))) ∈ lw_all := lw_g (lw_at lw_m3 174 rfl) rfl
theorem q712 : (Jvm.Cond.methodLink "java/util/TreeMap" (300 : Nat) ({ cls := "java/util/TreeMap", name := "rightOf", desc := "(Ljava/util/TreeMap$Entry;)Ljava/util/TreeMap$Entry;" } : Jvm.MethodName)) ∈ lw_all := lw_g (lw_at lw_m3 175 rfl) rfl
theorem q713 : (Jvm.Cond.static ({ cls := "java/util/TreeMap", name := "rightOf", desc := "(Ljava/util/TreeMap$Entry;)Ljava/util/TreeMap$Entry;" } : Jvm.MethodName)) ∈ lw_all := lw_g (lw_at lw_m3 176 rfl) rfl
theorem q714 : (Jvm.Cond.code ({ cls := "java/util/TreeMap", name := "rightOf", desc := "(Ljava/util/TreeMap$Entry;)Ljava/util/TreeMap$Entry;" } : Jvm.MethodName) prog_55_method_80_code (1 : Nat) (Option.some (Jvm.ClassFile.FieldType.object "java/util/TreeMap$Entry"))) ∈ lw_all := lw_g (lw_at lw_m3 177 rfl) rfl
theorem q715 : (Jvm.Cond.methodLink "java/util/TreeMap" (307 : Nat) ({ cls := "java/util/TreeMap", name := "setColor", desc := "(Ljava/util/TreeMap$Entry;Z)V" } : Jvm.MethodName)) ∈ lw_all := lw_g (lw_at lw_m3 178 rfl) rfl
theorem q716 : (Jvm.Cond.static ({ cls := "java/util/TreeMap", name := "setColor", desc := "(Ljava/util/TreeMap$Entry;Z)V" } : Jvm.MethodName)) ∈ lw_all := lw_g (lw_at lw_m3 179 rfl) rfl
theorem q717 : (Jvm.Cond.code ({ cls := "java/util/TreeMap", name := "setColor", desc := "(Ljava/util/TreeMap$Entry;Z)V" } : Jvm.MethodName) prog_55_method_78_code (2 : Nat) (Option.none : Option Jvm.ClassFile.FieldType)) ∈ lw_all := lw_g (lw_at lw_m3 180 rfl) rfl
theorem q718 : (Jvm.Cond.methodLink "java/util/TreeMap" (311 : Nat) ({ cls := "java/util/TreeMap", name := "rotateLeft", desc := "(Ljava/util/TreeMap$Entry;)V" } : Jvm.MethodName)) ∈ lw_all := lw_g (lw_at lw_m3 181 rfl) rfl
theorem q719 : (Jvm.Cond.privateMethod ({ cls := "java/util/TreeMap", name := "rotateLeft", desc := "(Ljava/util/TreeMap$Entry;)V" } : Jvm.MethodName)) ∈ lw_tbl := lw_at lw_m3 182 rfl
theorem q720 : (Jvm.Cond.instanceMethod ({ cls := "java/util/TreeMap", name := "rotateLeft", desc := "(Ljava/util/TreeMap$Entry;)V" } : Jvm.MethodName)) ∈ lw_all := lw_g (lw_at lw_m3 183 rfl) rfl
theorem q721 : (Jvm.Cond.code ({ cls := "java/util/TreeMap", name := "rotateLeft", desc := "(Ljava/util/TreeMap$Entry;)V" } : Jvm.MethodName) prog_55_method_81_code (3 : Nat) (Option.none : Option Jvm.ClassFile.FieldType)) ∈ lw_all := lw_g (lw_at lw_m3 184 rfl) rfl
theorem q722 : (Jvm.Cond.methodLink "java/util/TreeMap" (314 : Nat) ({ cls := "java/util/TreeMap", name := "rotateRight", desc := "(Ljava/util/TreeMap$Entry;)V" } : Jvm.MethodName)) ∈ lw_all := lw_g (lw_at lw_m3 185 rfl) rfl
theorem q723 : (Jvm.Cond.privateMethod ({ cls := "java/util/TreeMap", name := "rotateRight", desc := "(Ljava/util/TreeMap$Entry;)V" } : Jvm.MethodName)) ∈ lw_tbl := lw_at lw_m3 186 rfl
theorem q724 : (Jvm.Cond.instanceMethod ({ cls := "java/util/TreeMap", name := "rotateRight", desc := "(Ljava/util/TreeMap$Entry;)V" } : Jvm.MethodName)) ∈ lw_all := lw_g (lw_at lw_m3 187 rfl) rfl
theorem q725 : (Jvm.Cond.code ({ cls := "java/util/TreeMap", name := "rotateRight", desc := "(Ljava/util/TreeMap$Entry;)V" } : Jvm.MethodName) prog_55_method_82_code (3 : Nat) (Option.none : Option Jvm.ClassFile.FieldType)) ∈ lw_all := lw_g (lw_at lw_m3 188 rfl) rfl
theorem q911 : (Jvm.Cond.selects "java/util/TreeMap" ({ cls := "java/lang/Object", name := "getClass", desc := "()Ljava/lang/Class;" } : Jvm.MethodName) ({ cls := "java/lang/Object", name := "getClass", desc := "()Ljava/lang/Class;" } : Jvm.MethodName)) ∈ lw_all := lw_g (lw_at lw_m4 134 rfl) rfl
theorem q958 : (Jvm.Cond.instanceMethod ({ cls := "java/util/TreeMap", name := "size", desc := "()I" } : Jvm.MethodName)) ∈ lw_all := lw_g (lw_at lw_m4 181 rfl) rfl
theorem q959 : (Jvm.Cond.selects "java/util/TreeMap" ({ cls := "java/util/TreeMap", name := "size", desc := "()I" } : Jvm.MethodName) ({ cls := "java/util/TreeMap", name := "size", desc := "()I" } : Jvm.MethodName)) ∈ lw_all := lw_g (lw_at lw_m4 182 rfl) rfl
theorem q960 : (Jvm.Cond.code ({ cls := "java/util/TreeMap", name := "size", desc := "()I" } : Jvm.MethodName) prog_55_method_5_code (1 : Nat) (Option.some Jvm.ClassFile.FieldType.int)) ∈ lw_all := lw_g (lw_at lw_m4 183 rfl) rfl
theorem q975 : (Jvm.Cond.castable "java/util/TreeMap" "java/util/Map") ∈ lw_tbl := lw_at lw_m4 198 rfl
theorem q976 : (Jvm.Cond.selects "java/util/TreeMap" ({ cls := "java/util/Map", name := "get", desc := "(Ljava/lang/Object;)Ljava/lang/Object;" } : Jvm.MethodName) ({ cls := "java/util/TreeMap", name := "get", desc := "(Ljava/lang/Object;)Ljava/lang/Object;" } : Jvm.MethodName)) ∈ lw_all := lw_g (lw_at lw_m4 199 rfl) rfl
theorem q977 : (Jvm.Cond.unhidden "java/util/TreeMap" "get" "(Ljava/lang/Object;)Ljava/lang/Object;") ∈ lw_tbl := lw_at lw_m4 200 rfl
theorem q978 : (Jvm.Cond.instanceMethod ({ cls := "java/util/TreeMap", name := "get", desc := "(Ljava/lang/Object;)Ljava/lang/Object;" } : Jvm.MethodName)) ∈ lw_all := lw_g (lw_at lw_m4 201 rfl) rfl
theorem q979 : (Jvm.Cond.publicMethod ({ cls := "java/util/TreeMap", name := "get", desc := "(Ljava/lang/Object;)Ljava/lang/Object;" } : Jvm.MethodName)) ∈ lw_tbl := lw_at lw_m4 202 rfl
theorem q980 : (Jvm.Cond.code ({ cls := "java/util/TreeMap", name := "get", desc := "(Ljava/lang/Object;)Ljava/lang/Object;" } : Jvm.MethodName) prog_55_method_8_code (3 : Nat) (Option.some (Jvm.ClassFile.FieldType.object "java/lang/Object"))) ∈ lw_all := lw_g (lw_at lw_m4 203 rfl) rfl
theorem q1009 : (Jvm.Cond.selects "java/util/TreeMap" ({ cls := "java/util/Map", name := "put", desc := "(Ljava/lang/Object;Ljava/lang/Object;)Ljava/lang/Object;" } : Jvm.MethodName) ({ cls := "java/util/TreeMap", name := "put", desc := "(Ljava/lang/Object;Ljava/lang/Object;)Ljava/lang/Object;" } : Jvm.MethodName)) ∈ lw_all := lw_g (lw_at lw_m4 232 rfl) rfl
theorem q1010 : (Jvm.Cond.unhidden "java/util/TreeMap" "put" "(Ljava/lang/Object;Ljava/lang/Object;)Ljava/lang/Object;") ∈ lw_tbl := lw_at lw_m4 233 rfl
theorem q1011 : (Jvm.Cond.instanceMethod ({ cls := "java/util/TreeMap", name := "put", desc := "(Ljava/lang/Object;Ljava/lang/Object;)Ljava/lang/Object;" } : Jvm.MethodName)) ∈ lw_all := lw_g (lw_at lw_m4 234 rfl) rfl
theorem q1012 : (Jvm.Cond.publicMethod ({ cls := "java/util/TreeMap", name := "put", desc := "(Ljava/lang/Object;Ljava/lang/Object;)Ljava/lang/Object;" } : Jvm.MethodName)) ∈ lw_tbl := lw_at lw_m4 235 rfl
theorem q1013 : (Jvm.Cond.code ({ cls := "java/util/TreeMap", name := "put", desc := "(Ljava/lang/Object;Ljava/lang/Object;)Ljava/lang/Object;" } : Jvm.MethodName) prog_55_method_21_code (3 : Nat) (Option.some (Jvm.ClassFile.FieldType.object "java/lang/Object"))) ∈ lw_all := lw_g (lw_at lw_m4 236 rfl) rfl
theorem q1014 : (Jvm.Cond.methodLink "java/util/TreeMap" (127 : Nat) ({ cls := "java/util/TreeMap", name := "put", desc := "(Ljava/lang/Object;Ljava/lang/Object;Z)Ljava/lang/Object;" } : Jvm.MethodName)) ∈ lw_all := lw_g (lw_at lw_m4 237 rfl) rfl
theorem q1015 : (Jvm.Cond.privateMethod ({ cls := "java/util/TreeMap", name := "put", desc := "(Ljava/lang/Object;Ljava/lang/Object;Z)Ljava/lang/Object;" } : Jvm.MethodName)) ∈ lw_tbl := lw_at lw_m4 238 rfl
theorem q1016 : (Jvm.Cond.instanceMethod ({ cls := "java/util/TreeMap", name := "put", desc := "(Ljava/lang/Object;Ljava/lang/Object;Z)Ljava/lang/Object;" } : Jvm.MethodName)) ∈ lw_all := lw_g (lw_at lw_m4 239 rfl) rfl
theorem q1017 : (Jvm.Cond.code ({ cls := "java/util/TreeMap", name := "put", desc := "(Ljava/lang/Object;Ljava/lang/Object;Z)Ljava/lang/Object;" } : Jvm.MethodName) prog_55_method_31_code (10 : Nat) (Option.some (Jvm.ClassFile.FieldType.object "java/lang/Object"))) ∈ lw_all := lw_g (lw_at lw_m5 0 rfl) rfl
theorem q1018 : (Jvm.Cond.methodLink "java/util/TreeMap" (135 : Nat) ({ cls := "java/util/TreeMap", name := "addEntryToEmptyMap", desc := "(Ljava/lang/Object;Ljava/lang/Object;)V" } : Jvm.MethodName)) ∈ lw_all := lw_g (lw_at lw_m5 1 rfl) rfl
theorem q1019 : (Jvm.Cond.privateMethod ({ cls := "java/util/TreeMap", name := "addEntryToEmptyMap", desc := "(Ljava/lang/Object;Ljava/lang/Object;)V" } : Jvm.MethodName)) ∈ lw_tbl := lw_at lw_m5 2 rfl
theorem q1020 : (Jvm.Cond.instanceMethod ({ cls := "java/util/TreeMap", name := "addEntryToEmptyMap", desc := "(Ljava/lang/Object;Ljava/lang/Object;)V" } : Jvm.MethodName)) ∈ lw_all := lw_g (lw_at lw_m5 3 rfl) rfl
theorem q1021 : (Jvm.Cond.code ({ cls := "java/util/TreeMap", name := "addEntryToEmptyMap", desc := "(Ljava/lang/Object;Ljava/lang/Object;)V" } : Jvm.MethodName) prog_55_method_30_code (3 : Nat) (Option.none : Option Jvm.ClassFile.FieldType)) ∈ lw_all := lw_g (lw_at lw_m5 4 rfl) rfl
theorem q1022 : (Jvm.Cond.methodLink "java/util/TreeMap" (123 : Nat) ({ cls := "java/util/TreeMap", name := "compare", desc := "(Ljava/lang/Object;Ljava/lang/Object;)I" } : Jvm.MethodName)) ∈ lw_all := lw_g (lw_at lw_m5 5 rfl) rfl
theorem q1023 : (Jvm.Cond.instanceMethod ({ cls := "java/util/TreeMap", name := "compare", desc := "(Ljava/lang/Object;Ljava/lang/Object;)I" } : Jvm.MethodName)) ∈ lw_all := lw_g (lw_at lw_m5 6 rfl) rfl
theorem q1024 : (Jvm.Cond.selects "java/util/TreeMap" ({ cls := "java/util/TreeMap", name := "compare", desc := "(Ljava/lang/Object;Ljava/lang/Object;)I" } : Jvm.MethodName) ({ cls := "java/util/TreeMap", name := "compare", desc := "(Ljava/lang/Object;Ljava/lang/Object;)I" } : Jvm.MethodName)) ∈ lw_all := lw_g (lw_at lw_m5 7 rfl) rfl
theorem q1025 : (Jvm.Cond.code ({ cls := "java/util/TreeMap", name := "compare", desc := "(Ljava/lang/Object;Ljava/lang/Object;)I" } : Jvm.MethodName) prog_55_method_67_code (3 : Nat) (Option.some Jvm.ClassFile.FieldType.int)) ∈ lw_all := lw_g (lw_at lw_m5 8 rfl) rfl
theorem q1026 : (Jvm.Cond.classLink "java/util/TreeMap" (59 : Nat) "java/util/TreeMap$Entry") ∈ lw_all := lw_g (lw_at lw_m5 9 rfl) rfl
theorem q1028 : (Jvm.Cond.methodLink "java/util/TreeMap" (167 : Nat) ({ cls := "java/util/TreeMap$Entry", name := "<init>", desc := "(Ljava/lang/Object;Ljava/lang/Object;Ljava/util/TreeMap$Entry;)V" } : Jvm.MethodName)) ∈ lw_all := lw_g (lw_at lw_m5 11 rfl) rfl
theorem q1033 : (Jvm.Cond.fieldLink "java/util/TreeMap" (105 : Nat) "java/util/TreeMap$Entry" "key" "Ljava/lang/Object;") ∈ lw_all := lw_g (lw_at lw_m5 16 rfl) rfl
theorem q1035 : (Jvm.Cond.fieldLink "java/util/TreeMap" (58 : Nat) "java/util/TreeMap$Entry" "value" "Ljava/lang/Object;") ∈ lw_all := lw_g (lw_at lw_m5 18 rfl) rfl
theorem q1036 : (Jvm.Cond.fieldLink "java/util/TreeMap" (111 : Nat) "java/util/TreeMap$Entry" "left" "Ljava/util/TreeMap$Entry;") ∈ lw_all := lw_g (lw_at lw_m5 19 rfl) rfl
theorem q1037 : (Jvm.Cond.fieldLink "java/util/TreeMap" (114 : Nat) "java/util/TreeMap$Entry" "right" "Ljava/util/TreeMap$Entry;") ∈ lw_all := lw_g (lw_at lw_m5 20 rfl) rfl
theorem q1039 : (Jvm.Cond.fieldLink "java/util/TreeMap" (124 : Nat) "java/util/TreeMap$Entry" "parent" "Ljava/util/TreeMap$Entry;") ∈ lw_all := lw_g (lw_at lw_m5 22 rfl) rfl
theorem q1041 : (Jvm.Cond.fieldLink "java/util/TreeMap" (290 : Nat) "java/util/TreeMap$Entry" "color" "Z") ∈ lw_all := lw_g (lw_at lw_m5 24 rfl) rfl
theorem q1055 : (Jvm.Cond.methodLink "java/util/TreeMap" (139 : Nat) ({ cls := "java/util/TreeMap", name := "addEntry", desc := "(Ljava/lang/Object;Ljava/lang/Object;Ljava/util/TreeMap$Entry;Z)V" } : Jvm.MethodName)) ∈ lw_all := lw_g (lw_at lw_m5 38 rfl) rfl
theorem q1056 : (Jvm.Cond.privateMethod ({ cls := "java/util/TreeMap", name := "addEntry", desc := "(Ljava/lang/Object;Ljava/lang/Object;Ljava/util/TreeMap$Entry;Z)V" } : Jvm.MethodName)) ∈ lw_tbl := lw_at lw_m5 39 rfl
theorem q1057 : (Jvm.Cond.instanceMethod ({ cls := "java/util/TreeMap", name := "addEntry", desc := "(Ljava/lang/Object;Ljava/lang/Object;Ljava/util/TreeMap$Entry;Z)V" } : Jvm.MethodName)) ∈ lw_all := lw_g (lw_at lw_m5 40 rfl) rfl
theorem q1058 : (Jvm.Cond.code ({ cls := "java/util/TreeMap", name := "addEntry", desc := "(Ljava/lang/Object;Ljava/lang/Object;Ljava/util/TreeMap$Entry;Z)V" } : Jvm.MethodName) prog_55_method_29_code (6 : Nat) (Option.none : Option Jvm.ClassFile.FieldType)) ∈ lw_all := lw_g (lw_at lw_m5 41 rfl) rfl
theorem q1059 : (Jvm.Cond.methodLink "java/util/TreeMap" (170 : Nat) ({ cls := "java/util/TreeMap", name := "fixAfterInsertion", desc := "(Ljava/util/TreeMap$Entry;)V" } : Jvm.MethodName)) ∈ lw_all := lw_g (lw_at lw_m5 42 rfl) rfl
theorem q1060 : (Jvm.Cond.privateMethod ({ cls := "java/util/TreeMap", name := "fixAfterInsertion", desc := "(Ljava/util/TreeMap$Entry;)V" } : Jvm.MethodName)) ∈ lw_tbl := lw_at lw_m5 43 rfl
theorem q1061 : (Jvm.Cond.instanceMethod ({ cls := "java/util/TreeMap", name := "fixAfterInsertion", desc := "(Ljava/util/TreeMap$Entry;)V" } : Jvm.MethodName)) ∈ lw_all := lw_g (lw_at lw_m5 44 rfl) rfl
theorem q1062 : (Jvm.Cond.code ({ cls := "java/util/TreeMap", name := "fixAfterInsertion", desc := "(Ljava/util/TreeMap$Entry;)V" } : Jvm.MethodName) prog_55_method_83_code (3 : Nat) (Option.none : Option Jvm.ClassFile.FieldType)) ∈ lw_all := lw_g (lw_at lw_m5 45 rfl) rfl
theorem q1156 : (Jvm.Cond.instanceMethod ({ cls := "java/util/TreeMap", name := "containsKey", desc := "(Ljava/lang/Object;)Z" } : Jvm.MethodName)) ∈ lw_all := lw_g (lw_at lw_m5 139 rfl) rfl
theorem q1157 : (Jvm.Cond.selects "java/util/TreeMap" ({ cls := "java/util/TreeMap", name := "containsKey", desc := "(Ljava/lang/Object;)Z" } : Jvm.MethodName) ({ cls := "java/util/TreeMap", name := "containsKey", desc := "(Ljava/lang/Object;)Z" } : Jvm.MethodName)) ∈ lw_all := lw_g (lw_at lw_m5 140 rfl) rfl
theorem q1158 : (Jvm.Cond.code ({ cls := "java/util/TreeMap", name := "containsKey", desc := "(Ljava/lang/Object;)Z" } : Jvm.MethodName) prog_55_method_6_code (2 : Nat) (Option.some Jvm.ClassFile.FieldType.boolean)) ∈ lw_all := lw_g (lw_at lw_m5 141 rfl) rfl
theorem q1291 : (Jvm.Cond.sameMethod "java/util/TreeMap" "java/util/AbstractMap" "isEmpty" "()Z") ∈ lw_all := lw_g (lw_at lw_m6 34 rfl) rfl
theorem q1293 : (Jvm.Cond.selects "java/util/TreeMap" ({ cls := "java/util/TreeMap", name := "isEmpty", desc := "()Z" } : Jvm.MethodName) ({ cls := "java/util/AbstractMap", name := "isEmpty", desc := "()Z" } : Jvm.MethodName)) ∈ lw_all := lw_g (lw_at lw_m6 36 rfl) rfl
theorem q1299 : (Jvm.Cond.selects "java/util/TreeMap" ({ cls := "java/util/AbstractMap", name := "size", desc := "()I" } : Jvm.MethodName) ({ cls := "java/util/TreeMap", name := "size", desc := "()I" } : Jvm.MethodName)) ∈ lw_all := lw_g (lw_at lw_m6 42 rfl) rfl
theorem q1302 : (Jvm.Cond.instanceMethod ({ cls := "java/util/TreeMap", name := "firstKey", desc := "()Ljava/lang/Object;" } : Jvm.MethodName)) ∈ lw_all := lw_g (lw_at lw_m6 45 rfl) rfl
theorem q1303 : (Jvm.Cond.selects "java/util/TreeMap" ({ cls := "java/util/TreeMap", name := "firstKey", desc := "()Ljava/lang/Object;" } : Jvm.MethodName) ({ cls := "java/util/TreeMap", name := "firstKey", desc := "()Ljava/lang/Object;" } : Jvm.MethodName)) ∈ lw_all := lw_g (lw_at lw_m6 46 rfl) rfl
theorem q1304 : (Jvm.Cond.code ({ cls := "java/util/TreeMap", name := "firstKey", desc := "()Ljava/lang/Object;" } : Jvm.MethodName) prog_55_method_10_code (1 : Nat) (Option.some (Jvm.ClassFile.FieldType.object "java/lang/Object"))) ∈ lw_all := lw_g (lw_at lw_m6 47 rfl) rfl
theorem q1305 : (Jvm.Cond.methodLink "java/util/TreeMap" (54 : Nat) ({ cls := "java/util/TreeMap", name := "getFirstEntry", desc := "()Ljava/util/TreeMap$Entry;" } : Jvm.MethodName)) ∈ lw_all := lw_g (lw_at lw_m6 48 rfl) rfl
theorem q1306 : (Jvm.Cond.instanceMethod ({ cls := "java/util/TreeMap", name := "getFirstEntry", desc := "()Ljava/util/TreeMap$Entry;" } : Jvm.MethodName)) ∈ lw_all := lw_g (lw_at lw_m6 49 rfl) rfl
theorem q1307 : (Jvm.Cond.selects "java/util/TreeMap" ({ cls := "java/util/TreeMap", name := "getFirstEntry", desc := "()Ljava/util/TreeMap$Entry;" } : Jvm.MethodName) ({ cls := "java/util/TreeMap", name := "getFirstEntry", desc := "()Ljava/util/TreeMap$Entry;" } : Jvm.MethodName)) ∈ lw_all := lw_g (lw_at lw_m6 50 rfl) rfl
theorem q1308 : (Jvm.Cond.code ({ cls := "java/util/TreeMap", name := "getFirstEntry", desc := "()Ljava/util/TreeMap$Entry;" } : Jvm.MethodName) prog_55_method_72_code (2 : Nat) (Option.some (Jvm.ClassFile.FieldType.object "java/util/TreeMap$Entry"))) ∈ lw_all := lw_g (lw_at lw_m6 51 rfl) rfl
theorem q1309 : (Jvm.Cond.methodLink "java/util/TreeMap" (72 : Nat) ({ cls := "java/util/TreeMap", name := "key", desc := "(Ljava/util/TreeMap$Entry;)Ljava/lang/Object;" } : Jvm.MethodName)) ∈ lw_all := lw_g (lw_at lw_m6 52 rfl) rfl
theorem q1310 : (Jvm.Cond.static ({ cls := "java/util/TreeMap", name := "key", desc := "(Ljava/util/TreeMap$Entry;)Ljava/lang/Object;" } : Jvm.MethodName)) ∈ lw_all := lw_g (lw_at lw_m6 53 rfl) rfl
theorem q1311 : (Jvm.Cond.code ({ cls := "java/util/TreeMap", name := "key", desc := "(Ljava/util/TreeMap$Entry;)Ljava/lang/Object;" } : Jvm.MethodName) prog_55_method_71_code (1 : Nat) (Option.some (Jvm.ClassFile.FieldType.object "java/lang/Object"))) ∈ lw_all := lw_g (lw_at lw_m6 54 rfl) rfl
theorem q1312 : (Jvm.Cond.classLink "java/util/TreeMap" (287 : Nat) "java/util/NoSuchElementException") ∈ lw_all := lw_g (lw_at lw_m6 55 rfl) rfl
theorem q1313 : (Jvm.Cond.methodLink "java/util/TreeMap" (289 : Nat) ({ cls := "java/util/NoSuchElementException", name := "<init>", desc := "()V" } : Jvm.MethodName)) ∈ lw_all := lw_g (lw_at lw_m6 56 rfl) rfl
theorem q1315 : (Jvm.Cond.instanceMethod ({ cls := "java/util/TreeMap", name := "firstEntry", desc := "()Ljava/util/Map$Entry;" } : Jvm.MethodName)) ∈ lw_all := lw_g (lw_at lw_m6 58 rfl) rfl
theorem q1316 : (Jvm.Cond.selects "java/util/TreeMap" ({ cls := "java/util/TreeMap", name := "firstEntry", desc := "()Ljava/util/Map$Entry;" } : Jvm.MethodName) ({ cls := "java/util/TreeMap", name := "firstEntry", desc := "()Ljava/util/Map$Entry;" } : Jvm.MethodName)) ∈ lw_all := lw_g (lw_at lw_m6 59 rfl) rfl
theorem q1317 : (Jvm.Cond.code ({ cls := "java/util/TreeMap", name := "firstEntry", desc := "()Ljava/util/Map$Entry;" } : Jvm.MethodName) prog_55_method_37_code (1 : Nat) (Option.some (Jvm.ClassFile.FieldType.object "java/util/Map$Entry"))) ∈ lw_all := lw_g (lw_at lw_m6 60 rfl) rfl
theorem q1318 : (Jvm.Cond.methodLink "java/util/TreeMap" (200 : Nat) ({ cls := "java/util/TreeMap", name := "exportEntry", desc := "(Ljava/util/TreeMap$Entry;)Ljava/util/Map$Entry;" } : Jvm.MethodName)) ∈ lw_all := lw_g (lw_at lw_m6 61 rfl) rfl
theorem q1319 : (Jvm.Cond.static ({ cls := "java/util/TreeMap", name := "exportEntry", desc := "(Ljava/util/TreeMap$Entry;)Ljava/util/Map$Entry;" } : Jvm.MethodName)) ∈ lw_all := lw_g (lw_at lw_m6 62 rfl) rfl
theorem q1320 : (Jvm.Cond.code ({ cls := "java/util/TreeMap", name := "exportEntry", desc := "(Ljava/util/TreeMap$Entry;)Ljava/util/Map$Entry;" } : Jvm.MethodName) prog_55_method_69_code (1 : Nat) (Option.some (Jvm.ClassFile.FieldType.object "java/util/Map$Entry"))) ∈ lw_all := lw_g (lw_at lw_m6 63 rfl) rfl
theorem q1321 : (Jvm.Cond.classLink "java/util/TreeMap" (282 : Nat) "java/util/AbstractMap$SimpleImmutableEntry") ∈ lw_all := lw_g (lw_at lw_m6 64 rfl) rfl
theorem q1323 : (Jvm.Cond.methodLink "java/util/TreeMap" (284 : Nat) ({ cls := "java/util/AbstractMap$SimpleImmutableEntry", name := "<init>", desc := "(Ljava/util/Map$Entry;)V" } : Jvm.MethodName)) ∈ lw_all := lw_g (lw_at lw_m6 66 rfl) rfl
theorem q1693 : (Jvm.Cond.selects "java/util/TreeMap" ({ cls := "java/util/TreeMap", name := "put", desc := "(Ljava/lang/Object;Ljava/lang/Object;)Ljava/lang/Object;" } : Jvm.MethodName) ({ cls := "java/util/TreeMap", name := "put", desc := "(Ljava/lang/Object;Ljava/lang/Object;)Ljava/lang/Object;" } : Jvm.MethodName)) ∈ lw_all := lw_g (lw_at lw_m7 196 rfl) rfl
theorem q1694 : (Jvm.Cond.selects "java/util/TreeMap" ({ cls := "java/util/TreeMap", name := "get", desc := "(Ljava/lang/Object;)Ljava/lang/Object;" } : Jvm.MethodName) ({ cls := "java/util/TreeMap", name := "get", desc := "(Ljava/lang/Object;)Ljava/lang/Object;" } : Jvm.MethodName)) ∈ lw_all := lw_g (lw_at lw_m7 197 rfl) rfl
theorem q1702 : (Jvm.Cond.castable "java/util/TreeMap" "java/lang/Object") ∈ lw_tbl := lw_at lw_m7 205 rfl
theorem in_J4 : ∀ w ∈ wsJ40, w ∈ lw_all := lw_in wsJ40 [180, 182, 166, 168, 170, 172, 174, 176, 178] (by decide +kernel) (by decide +kernel)
/-! java/lang/Throwable -/
set_option maxRecDepth 100000
def RJ5 : String := "java/lang/Throwable"
def TJ5 : u_T := fun k => match k with
  | 0 => ("java/lang/Throwable", "cause", "Ljava/lang/Throwable;", false)
  | 1 => ("java/lang/Throwable", "stackTrace", "[Ljava/lang/StackTraceElement;", false)
  | 2 => ("java/lang/Throwable", "suppressedExceptions", "Ljava/util/List;", false)
  | 3 => ("java/lang/Throwable", "detailMessage", "Ljava/lang/String;", false)
  | _ => ("java/lang/Throwable", "backtrace", "Ljava/lang/Object;", false)
def tyJ5 : Nat → FieldType := fun k => match k with
  | 0 => .object "java/lang/Throwable"
  | 1 => .array (.object "java/lang/StackTraceElement")
  | 2 => .object "java/util/List"
  | 3 => .object "java/lang/String"
  | _ => .object "java/lang/Object"
abbrev wsJ50 : List Cond := u_ws RJ5 TJ5 5
theorem nmJ5 : ∀ a, a < 5 → ∀ b, b < 5 → a ≠ b → (TJ5 a).2.1 ≠ (TJ5 b).2.1 := by decide +kernel
theorem tyJ5_ok : ∀ k, k < 5 → parseFieldDescriptor (TJ5 k).2.2.1 = some (tyJ5 k) := by decide +kernel
abbrev cJ5_init : ByteArray := prog_26_method_1_code
def yJ5_init : MethodName := ⟨RJ5, "<init>", "()V"⟩
def dkwJ5_init_1 : List UInt8 := [182, 0, 27, 87, 177]
abbrev dktJ5_init_1 : List UInt8 := dkwJ5_init_1 ++ []
def dkwJ5_init_0 : List UInt8 := [42, 183, 0, 1, 42, 42, 181, 0, 7, 42, 178, 0, 13, 181, 0, 17, 42, 178, 0, 20, 181, 0, 24, 42]
abbrev dktJ5_init_0 : List UInt8 := dkwJ5_init_0 ++ dktJ5_init_1
theorem dksJ5_init_0 : cJ5_init.data.toList.drop 0 = dktJ5_init_0 := by decide +kernel
theorem dksJ5_init_1 : cJ5_init.data.toList.drop 24 = dktJ5_init_1 := dk_seg dksJ5_init_0 24 rfl rfl
theorem dJ5_init_0 : decode cJ5_init 0 = .ok (.aload_n 0, 1) := dk_42 (dk_at dksJ5_init_0 0 rfl rfl)
theorem dJ5_init_1 : decode cJ5_init 1 = .ok (.invokespecial 1, 3) := dk_183 0 1 (dk_at dksJ5_init_0 1 rfl rfl)
theorem dJ5_init_4 : decode cJ5_init 4 = .ok (.aload_n 0, 1) := dk_42 (dk_at dksJ5_init_0 4 rfl rfl)
theorem dJ5_init_5 : decode cJ5_init 5 = .ok (.aload_n 0, 1) := dk_42 (dk_at dksJ5_init_0 5 rfl rfl)
theorem dJ5_init_6 : decode cJ5_init 6 = .ok (.putfield 7, 3) := dk_181 0 7 (dk_at dksJ5_init_0 6 rfl rfl)
theorem dJ5_init_9 : decode cJ5_init 9 = .ok (.aload_n 0, 1) := dk_42 (dk_at dksJ5_init_0 9 rfl rfl)
theorem dJ5_init_10 : decode cJ5_init 10 = .ok (.getstatic 13, 3) := dk_178 0 13 (dk_at dksJ5_init_0 10 rfl rfl)
theorem dJ5_init_13 : decode cJ5_init 13 = .ok (.putfield 17, 3) := dk_181 0 17 (dk_at dksJ5_init_0 13 rfl rfl)
theorem dJ5_init_16 : decode cJ5_init 16 = .ok (.aload_n 0, 1) := dk_42 (dk_at dksJ5_init_0 16 rfl rfl)
theorem dJ5_init_17 : decode cJ5_init 17 = .ok (.getstatic 20, 3) := dk_178 0 20 (dk_at dksJ5_init_0 17 rfl rfl)
theorem dJ5_init_20 : decode cJ5_init 20 = .ok (.putfield 24, 3) := dk_181 0 24 (dk_at dksJ5_init_0 20 rfl rfl)
theorem dJ5_init_23 : decode cJ5_init 23 = .ok (.aload_n 0, 1) := dk_42 (dk_at dksJ5_init_0 23 rfl rfl)
theorem dJ5_init_24 : decode cJ5_init 24 = .ok (.invokevirtual 27, 3) := dk_182 0 27 (dk_at dksJ5_init_1 0 rfl rfl)
theorem dJ5_init_27 : decode cJ5_init 27 = .ok (.pop, 1) := dk_87 (dk_at dksJ5_init_1 3 rfl rfl)
theorem dJ5_init_28 : decode cJ5_init 28 = .ok (.return_, 1) := dk_177 (dk_at dksJ5_init_1 4 rfl rfl)
abbrev cJ5_init_2 : ByteArray := prog_26_method_2_code
def yJ5_init_2 : MethodName := ⟨RJ5, "<init>", "(Ljava/lang/String;)V"⟩
def dkwJ5_init_2_1 : List UInt8 := [182, 0, 27, 87, 42, 43, 181, 0, 31, 177]
abbrev dktJ5_init_2_1 : List UInt8 := dkwJ5_init_2_1 ++ []
def dkwJ5_init_2_0 : List UInt8 := [42, 183, 0, 1, 42, 42, 181, 0, 7, 42, 178, 0, 13, 181, 0, 17, 42, 178, 0, 20, 181, 0, 24, 42]
abbrev dktJ5_init_2_0 : List UInt8 := dkwJ5_init_2_0 ++ dktJ5_init_2_1
theorem dksJ5_init_2_0 : cJ5_init_2.data.toList.drop 0 = dktJ5_init_2_0 := by decide +kernel
theorem dksJ5_init_2_1 : cJ5_init_2.data.toList.drop 24 = dktJ5_init_2_1 := dk_seg dksJ5_init_2_0 24 rfl rfl
theorem dJ5_init_2_0 : decode cJ5_init_2 0 = .ok (.aload_n 0, 1) := dk_42 (dk_at dksJ5_init_2_0 0 rfl rfl)
theorem dJ5_init_2_1 : decode cJ5_init_2 1 = .ok (.invokespecial 1, 3) := dk_183 0 1 (dk_at dksJ5_init_2_0 1 rfl rfl)
theorem dJ5_init_2_4 : decode cJ5_init_2 4 = .ok (.aload_n 0, 1) := dk_42 (dk_at dksJ5_init_2_0 4 rfl rfl)
theorem dJ5_init_2_5 : decode cJ5_init_2 5 = .ok (.aload_n 0, 1) := dk_42 (dk_at dksJ5_init_2_0 5 rfl rfl)
theorem dJ5_init_2_6 : decode cJ5_init_2 6 = .ok (.putfield 7, 3) := dk_181 0 7 (dk_at dksJ5_init_2_0 6 rfl rfl)
theorem dJ5_init_2_9 : decode cJ5_init_2 9 = .ok (.aload_n 0, 1) := dk_42 (dk_at dksJ5_init_2_0 9 rfl rfl)
theorem dJ5_init_2_10 : decode cJ5_init_2 10 = .ok (.getstatic 13, 3) := dk_178 0 13 (dk_at dksJ5_init_2_0 10 rfl rfl)
theorem dJ5_init_2_13 : decode cJ5_init_2 13 = .ok (.putfield 17, 3) := dk_181 0 17 (dk_at dksJ5_init_2_0 13 rfl rfl)
theorem dJ5_init_2_16 : decode cJ5_init_2 16 = .ok (.aload_n 0, 1) := dk_42 (dk_at dksJ5_init_2_0 16 rfl rfl)
theorem dJ5_init_2_17 : decode cJ5_init_2 17 = .ok (.getstatic 20, 3) := dk_178 0 20 (dk_at dksJ5_init_2_0 17 rfl rfl)
theorem dJ5_init_2_20 : decode cJ5_init_2 20 = .ok (.putfield 24, 3) := dk_181 0 24 (dk_at dksJ5_init_2_0 20 rfl rfl)
theorem dJ5_init_2_23 : decode cJ5_init_2 23 = .ok (.aload_n 0, 1) := dk_42 (dk_at dksJ5_init_2_0 23 rfl rfl)
theorem dJ5_init_2_24 : decode cJ5_init_2 24 = .ok (.invokevirtual 27, 3) := dk_182 0 27 (dk_at dksJ5_init_2_1 0 rfl rfl)
theorem dJ5_init_2_27 : decode cJ5_init_2 27 = .ok (.pop, 1) := dk_87 (dk_at dksJ5_init_2_1 3 rfl rfl)
theorem dJ5_init_2_28 : decode cJ5_init_2 28 = .ok (.aload_n 0, 1) := dk_42 (dk_at dksJ5_init_2_1 4 rfl rfl)
theorem dJ5_init_2_29 : decode cJ5_init_2 29 = .ok (.aload_n 1, 1) := dk_43 (dk_at dksJ5_init_2_1 5 rfl rfl)
theorem dJ5_init_2_30 : decode cJ5_init_2 30 = .ok (.putfield 31, 3) := dk_181 0 31 (dk_at dksJ5_init_2_1 6 rfl rfl)
theorem dJ5_init_2_33 : decode cJ5_init_2 33 = .ok (.return_, 1) := dk_177 (dk_at dksJ5_init_2_1 9 rfl rfl)
theorem q66 : (Jvm.Cond.initialized "java/lang/Throwable") ∈ lw_all := lw_g (lw_at lw_m1 9 rfl) rfl
theorem q265 : (Jvm.Cond.declares ({ cls := "java/lang/Throwable", name := "<init>", desc := "()V" } : Jvm.MethodName)) ∈ lw_tbl := lw_at lw_m1 208 rfl
theorem q266 : (Jvm.Cond.declares ({ cls := "java/lang/Throwable", name := "<init>", desc := "(Ljava/lang/String;)V" } : Jvm.MethodName)) ∈ lw_tbl := lw_at lw_m1 209 rfl
theorem q270 : (Jvm.Cond.lays "java/lang/Throwable" "java/lang/Throwable" "cause" "Ljava/lang/Throwable;") ∈ lw_all := lw_g (lw_at lw_m1 213 rfl) rfl
theorem q272 : (Jvm.Cond.lays "java/lang/Throwable" "java/lang/Throwable" "stackTrace" "[Ljava/lang/StackTraceElement;") ∈ lw_all := lw_g (lw_at lw_m1 215 rfl) rfl
theorem q274 : (Jvm.Cond.lays "java/lang/Throwable" "java/lang/Throwable" "suppressedExceptions" "Ljava/util/List;") ∈ lw_all := lw_g (lw_at lw_m1 217 rfl) rfl
theorem q276 : (Jvm.Cond.lays "java/lang/Throwable" "java/lang/Throwable" "detailMessage" "Ljava/lang/String;") ∈ lw_all := lw_g (lw_at lw_m1 219 rfl) rfl
theorem q278 : (Jvm.Cond.lays "java/lang/Throwable" "java/lang/Throwable" "backtrace" "Ljava/lang/Object;") ∈ lw_all := lw_g (lw_at lw_m1 221 rfl) rfl
theorem q279 : (Jvm.Cond.fieldLink "java/lang/Throwable" (198 : Nat) "java/lang/Throwable" "backtrace" "Ljava/lang/Object;") ∈ lw_all := lw_g (lw_at lw_m1 222 rfl) rfl
theorem q280 : (Jvm.Cond.superclass "java/lang/Throwable" "java/lang/Object") ∈ lw_all := lw_g (lw_at lw_m1 223 rfl) rfl
theorem q281 : (Jvm.Cond.instanceMethod ({ cls := "java/lang/Throwable", name := "<init>", desc := "()V" } : Jvm.MethodName)) ∈ lw_all := lw_g (lw_at lw_m1 224 rfl) rfl
theorem q282 : (Jvm.Cond.code ({ cls := "java/lang/Throwable", name := "<init>", desc := "()V" } : Jvm.MethodName) prog_26_method_1_code (1 : Nat) (Option.none : Option Jvm.ClassFile.FieldType)) ∈ lw_all := lw_g (lw_at lw_m1 225 rfl) rfl
theorem q283 : (Jvm.Cond.methodLink "java/lang/Throwable" (1 : Nat) ({ cls := "java/lang/Object", name := "<init>", desc := "()V" } : Jvm.MethodName)) ∈ lw_all := lw_g (lw_at lw_m1 226 rfl) rfl
theorem q284 : (Jvm.Cond.fieldLink "java/lang/Throwable" (13 : Nat) "java/lang/Throwable" "UNASSIGNED_STACK" "[Ljava/lang/StackTraceElement;") ∈ lw_all := lw_g (lw_at lw_m1 227 rfl) rfl
theorem q285 : (Jvm.Cond.laysStatic "java/lang/Throwable" "UNASSIGNED_STACK" "[Ljava/lang/StackTraceElement;") ∈ lw_tbl := lw_at lw_m1 228 rfl
theorem q286 : (Jvm.Cond.fieldLink "java/lang/Throwable" (20 : Nat) "java/lang/Throwable" "SUPPRESSED_SENTINEL" "Ljava/util/List;") ∈ lw_all := lw_g (lw_at lw_m1 229 rfl) rfl
theorem q287 : (Jvm.Cond.laysStatic "java/lang/Throwable" "SUPPRESSED_SENTINEL" "Ljava/util/List;") ∈ lw_tbl := lw_at lw_m1 230 rfl
theorem q288 : (Jvm.Cond.methodLink "java/lang/Throwable" (27 : Nat) ({ cls := "java/lang/Throwable", name := "fillInStackTrace", desc := "()Ljava/lang/Throwable;" } : Jvm.MethodName)) ∈ lw_all := lw_g (lw_at lw_m1 231 rfl) rfl
theorem q289 : (Jvm.Cond.instanceMethod ({ cls := "java/lang/Throwable", name := "fillInStackTrace", desc := "()Ljava/lang/Throwable;" } : Jvm.MethodName)) ∈ lw_all := lw_g (lw_at lw_m1 232 rfl) rfl
theorem q290 : (Jvm.Cond.sameMethod "java/lang/Throwable" "java/lang/Throwable" "fillInStackTrace" "()Ljava/lang/Throwable;") ∈ lw_all := lw_g (lw_at lw_m1 233 rfl) rfl
theorem q296 : (Jvm.Cond.codeSync ({ cls := "java/lang/Throwable", name := "fillInStackTrace", desc := "()Ljava/lang/Throwable;" } : Jvm.MethodName) prog_26_method_18_code (1 : Nat) (Option.some (Jvm.ClassFile.FieldType.object "java/lang/Throwable"))) ∈ lw_all := lw_g (lw_at lw_m1 239 rfl) rfl
theorem q297 : (Jvm.Cond.methodLink "java/lang/Throwable" (202 : Nat) ({ cls := "java/lang/Throwable", name := "fillInStackTrace", desc := "(I)Ljava/lang/Throwable;" } : Jvm.MethodName)) ∈ lw_all := lw_g (lw_at lw_m2 0 rfl) rfl
theorem q298 : (Jvm.Cond.privateMethod ({ cls := "java/lang/Throwable", name := "fillInStackTrace", desc := "(I)Ljava/lang/Throwable;" } : Jvm.MethodName)) ∈ lw_tbl := lw_at lw_m2 1 rfl
theorem q299 : (Jvm.Cond.instanceMethod ({ cls := "java/lang/Throwable", name := "fillInStackTrace", desc := "(I)Ljava/lang/Throwable;" } : Jvm.MethodName)) ∈ lw_all := lw_g (lw_at lw_m2 2 rfl) rfl
theorem q300 : (Jvm.Cond.instantiable "java/lang/Throwable" (6 : Nat)) ∈ lw_all := lw_g (lw_at lw_m2 3 rfl) rfl
theorem q301 : (Jvm.Cond.native ({ cls := "java/lang/Throwable", name := "fillInStackTrace", desc := "(I)Ljava/lang/Throwable;" } : Jvm.MethodName)) ∈ lw_all := lw_g (lw_at lw_m2 4 rfl) rfl
theorem q312 : (Jvm.Cond.fieldLink "java/lang/Throwable" (198 : Nat) "java/lang/Throwable" "backtrace" "Ljava/lang/Object;") ∈ lw_all := lw_g (lw_at lw_m2 15 rfl) rfl
theorem q313 : (Jvm.Cond.fieldLink "java/lang/Throwable" (31 : Nat) "java/lang/Throwable" "detailMessage" "Ljava/lang/String;") ∈ lw_all := lw_g (lw_at lw_m2 16 rfl) rfl
theorem q314 : (Jvm.Cond.fieldLink "java/lang/Throwable" (7 : Nat) "java/lang/Throwable" "cause" "Ljava/lang/Throwable;") ∈ lw_all := lw_g (lw_at lw_m2 17 rfl) rfl
theorem q315 : (Jvm.Cond.fieldLink "java/lang/Throwable" (17 : Nat) "java/lang/Throwable" "stackTrace" "[Ljava/lang/StackTraceElement;") ∈ lw_all := lw_g (lw_at lw_m2 18 rfl) rfl
theorem q316 : (Jvm.Cond.fieldLink "java/lang/Throwable" (24 : Nat) "java/lang/Throwable" "suppressedExceptions" "Ljava/util/List;") ∈ lw_all := lw_g (lw_at lw_m2 19 rfl) rfl
theorem q317 : (Jvm.Cond.soleField "java/lang/Throwable" "backtrace") ∈ lw_all := lw_g (lw_at lw_m2 20 rfl) rfl
theorem q318 : (Jvm.Cond.soleField "java/lang/Throwable" "detailMessage") ∈ lw_all := lw_g (lw_at lw_m2 21 rfl) rfl
theorem q319 : (Jvm.Cond.soleField "java/lang/Throwable" "cause") ∈ lw_all := lw_g (lw_at lw_m2 22 rfl) rfl
theorem q320 : (Jvm.Cond.soleField "java/lang/Throwable" "stackTrace") ∈ lw_all := lw_g (lw_at lw_m2 23 rfl) rfl
theorem q322 : (Jvm.Cond.soleField "java/lang/Throwable" "depth") ∈ lw_all := lw_g (lw_at lw_m2 25 rfl) rfl
theorem q323 : (Jvm.Cond.soleField "java/lang/Throwable" "suppressedExceptions") ∈ lw_all := lw_g (lw_at lw_m2 26 rfl) rfl
theorem q360 : (Jvm.Cond.instanceMethod ({ cls := "java/lang/Throwable", name := "<init>", desc := "(Ljava/lang/String;)V" } : Jvm.MethodName)) ∈ lw_all := lw_g (lw_at lw_m2 63 rfl) rfl
theorem q361 : (Jvm.Cond.code ({ cls := "java/lang/Throwable", name := "<init>", desc := "(Ljava/lang/String;)V" } : Jvm.MethodName) prog_26_method_2_code (2 : Nat) (Option.none : Option Jvm.ClassFile.FieldType)) ∈ lw_all := lw_g (lw_at lw_m2 64 rfl) rfl
theorem q1692 : (Jvm.Cond.sameMethod "java/lang/Throwable" "java/lang/Throwable" "fillInStackTrace" "(I)Ljava/lang/Throwable;") ∈ lw_all := lw_g (lw_at lw_m7 195 rfl) rfl
theorem q1720 : (Jvm.Cond.castable "java/lang/Throwable" "java/lang/Object") ∈ lw_tbl := lw_at lw_m7 223 rfl
theorem in_J5 : ∀ w ∈ wsJ50, w ∈ lw_all := lw_in wsJ50 [270, 272, 274, 276, 278] (by decide +kernel) (by decide +kernel)
/-! java/lang/Exception -/
set_option maxRecDepth 100000
def RJ6 : String := "java/lang/Exception"
abbrev cJ6_init : ByteArray := prog_14_method_1_code
def yJ6_init : MethodName := ⟨RJ6, "<init>", "()V"⟩
theorem dJ6_init_0 : decode cJ6_init 0 = .ok (.aload_n 0, 1) := by decide +kernel
theorem dJ6_init_1 : decode cJ6_init 1 = .ok (.invokespecial 1, 3) := by decide +kernel
theorem dJ6_init_4 : decode cJ6_init 4 = .ok (.return_, 1) := by decide +kernel
abbrev cJ6_init_2 : ByteArray := prog_14_method_2_code
def yJ6_init_2 : MethodName := ⟨RJ6, "<init>", "(Ljava/lang/String;)V"⟩
def dkwJ6_init_2_0 : List UInt8 := [42, 43, 183, 0, 7, 177]
abbrev dktJ6_init_2_0 : List UInt8 := dkwJ6_init_2_0 ++ []
theorem dksJ6_init_2_0 : cJ6_init_2.data.toList.drop 0 = dktJ6_init_2_0 := by decide +kernel
theorem dJ6_init_2_0 : decode cJ6_init_2 0 = .ok (.aload_n 0, 1) := dk_42 (dk_at dksJ6_init_2_0 0 rfl rfl)
theorem dJ6_init_2_1 : decode cJ6_init_2 1 = .ok (.aload_n 1, 1) := dk_43 (dk_at dksJ6_init_2_0 1 rfl rfl)
theorem dJ6_init_2_2 : decode cJ6_init_2 2 = .ok (.invokespecial 7, 3) := dk_183 0 7 (dk_at dksJ6_init_2_0 2 rfl rfl)
theorem dJ6_init_2_5 : decode cJ6_init_2 5 = .ok (.return_, 1) := dk_177 (dk_at dksJ6_init_2_0 5 rfl rfl)
theorem q67 : (Jvm.Cond.initialized "java/lang/Exception") ∈ lw_all := lw_g (lw_at lw_m1 10 rfl) rfl
theorem q263 : (Jvm.Cond.declares ({ cls := "java/lang/Exception", name := "<init>", desc := "()V" } : Jvm.MethodName)) ∈ lw_tbl := lw_at lw_m1 206 rfl
theorem q264 : (Jvm.Cond.declares ({ cls := "java/lang/Exception", name := "<init>", desc := "(Ljava/lang/String;)V" } : Jvm.MethodName)) ∈ lw_tbl := lw_at lw_m1 207 rfl
theorem q309 : (Jvm.Cond.instanceMethod ({ cls := "java/lang/Exception", name := "<init>", desc := "()V" } : Jvm.MethodName)) ∈ lw_all := lw_g (lw_at lw_m2 12 rfl) rfl
theorem q310 : (Jvm.Cond.code ({ cls := "java/lang/Exception", name := "<init>", desc := "()V" } : Jvm.MethodName) prog_14_method_1_code (1 : Nat) (Option.none : Option Jvm.ClassFile.FieldType)) ∈ lw_all := lw_g (lw_at lw_m2 13 rfl) rfl
theorem q311 : (Jvm.Cond.methodLink "java/lang/Exception" (1 : Nat) ({ cls := "java/lang/Throwable", name := "<init>", desc := "()V" } : Jvm.MethodName)) ∈ lw_all := lw_g (lw_at lw_m2 14 rfl) rfl
theorem q357 : (Jvm.Cond.instanceMethod ({ cls := "java/lang/Exception", name := "<init>", desc := "(Ljava/lang/String;)V" } : Jvm.MethodName)) ∈ lw_all := lw_g (lw_at lw_m2 60 rfl) rfl
theorem q358 : (Jvm.Cond.code ({ cls := "java/lang/Exception", name := "<init>", desc := "(Ljava/lang/String;)V" } : Jvm.MethodName) prog_14_method_2_code (2 : Nat) (Option.none : Option Jvm.ClassFile.FieldType)) ∈ lw_all := lw_g (lw_at lw_m2 61 rfl) rfl
theorem q359 : (Jvm.Cond.methodLink "java/lang/Exception" (7 : Nat) ({ cls := "java/lang/Throwable", name := "<init>", desc := "(Ljava/lang/String;)V" } : Jvm.MethodName)) ∈ lw_all := lw_g (lw_at lw_m2 62 rfl) rfl
/-! java/lang/RuntimeException -/
set_option maxRecDepth 100000
def RJ7 : String := "java/lang/RuntimeException"
abbrev cJ7_init : ByteArray := prog_23_method_1_code
def yJ7_init : MethodName := ⟨RJ7, "<init>", "()V"⟩
theorem dJ7_init_0 : decode cJ7_init 0 = .ok (.aload_n 0, 1) := by decide +kernel
theorem dJ7_init_1 : decode cJ7_init 1 = .ok (.invokespecial 1, 3) := by decide +kernel
theorem dJ7_init_4 : decode cJ7_init 4 = .ok (.return_, 1) := by decide +kernel
abbrev cJ7_init_2 : ByteArray := prog_23_method_2_code
def yJ7_init_2 : MethodName := ⟨RJ7, "<init>", "(Ljava/lang/String;)V"⟩
def dkwJ7_init_2_0 : List UInt8 := [42, 43, 183, 0, 7, 177]
abbrev dktJ7_init_2_0 : List UInt8 := dkwJ7_init_2_0 ++ []
theorem dksJ7_init_2_0 : cJ7_init_2.data.toList.drop 0 = dktJ7_init_2_0 := by decide +kernel
theorem dJ7_init_2_0 : decode cJ7_init_2 0 = .ok (.aload_n 0, 1) := dk_42 (dk_at dksJ7_init_2_0 0 rfl rfl)
theorem dJ7_init_2_1 : decode cJ7_init_2 1 = .ok (.aload_n 1, 1) := dk_43 (dk_at dksJ7_init_2_0 1 rfl rfl)
theorem dJ7_init_2_2 : decode cJ7_init_2 2 = .ok (.invokespecial 7, 3) := dk_183 0 7 (dk_at dksJ7_init_2_0 2 rfl rfl)
theorem dJ7_init_2_5 : decode cJ7_init_2 5 = .ok (.return_, 1) := dk_177 (dk_at dksJ7_init_2_0 5 rfl rfl)
theorem q68 : (Jvm.Cond.initialized "java/lang/RuntimeException") ∈ lw_all := lw_g (lw_at lw_m1 11 rfl) rfl
theorem q261 : (Jvm.Cond.declares ({ cls := "java/lang/RuntimeException", name := "<init>", desc := "()V" } : Jvm.MethodName)) ∈ lw_tbl := lw_at lw_m1 204 rfl
theorem q262 : (Jvm.Cond.declares ({ cls := "java/lang/RuntimeException", name := "<init>", desc := "(Ljava/lang/String;)V" } : Jvm.MethodName)) ∈ lw_tbl := lw_at lw_m1 205 rfl
theorem q306 : (Jvm.Cond.instanceMethod ({ cls := "java/lang/RuntimeException", name := "<init>", desc := "()V" } : Jvm.MethodName)) ∈ lw_all := lw_g (lw_at lw_m2 9 rfl) rfl
theorem q307 : (Jvm.Cond.code ({ cls := "java/lang/RuntimeException", name := "<init>", desc := "()V" } : Jvm.MethodName) prog_23_method_1_code (1 : Nat) (Option.none : Option Jvm.ClassFile.FieldType)) ∈ lw_all := lw_g (lw_at lw_m2 10 rfl) rfl
theorem q308 : (Jvm.Cond.methodLink "java/lang/RuntimeException" (1 : Nat) ({ cls := "java/lang/Exception", name := "<init>", desc := "()V" } : Jvm.MethodName)) ∈ lw_all := lw_g (lw_at lw_m2 11 rfl) rfl
theorem q354 : (Jvm.Cond.instanceMethod ({ cls := "java/lang/RuntimeException", name := "<init>", desc := "(Ljava/lang/String;)V" } : Jvm.MethodName)) ∈ lw_all := lw_g (lw_at lw_m2 57 rfl) rfl
theorem q355 : (Jvm.Cond.code ({ cls := "java/lang/RuntimeException", name := "<init>", desc := "(Ljava/lang/String;)V" } : Jvm.MethodName) prog_23_method_2_code (2 : Nat) (Option.none : Option Jvm.ClassFile.FieldType)) ∈ lw_all := lw_g (lw_at lw_m2 58 rfl) rfl
theorem q356 : (Jvm.Cond.methodLink "java/lang/RuntimeException" (7 : Nat) ({ cls := "java/lang/Exception", name := "<init>", desc := "(Ljava/lang/String;)V" } : Jvm.MethodName)) ∈ lw_all := lw_g (lw_at lw_m2 59 rfl) rfl
/-! java/lang/IllegalArgumentException -/
set_option maxRecDepth 100000
def RJ8 : String := "java/lang/IllegalArgumentException"
def TJ8 : u_T := fun k => match k with
  | 0 => ("java/lang/Throwable", "cause", "Ljava/lang/Throwable;", false)
  | 1 => ("java/lang/Throwable", "stackTrace", "[Ljava/lang/StackTraceElement;", false)
  | 2 => ("java/lang/Throwable", "suppressedExceptions", "Ljava/util/List;", false)
  | 3 => ("java/lang/Throwable", "detailMessage", "Ljava/lang/String;", false)
  | 4 => ("java/lang/Throwable", "backtrace", "Ljava/lang/Object;", false)
  | _ => ("java/lang/Throwable", "depth", "I", false)
def tyJ8 : Nat → FieldType := fun k => match k with
  | 0 => .object "java/lang/Throwable"
  | 1 => .array (.object "java/lang/StackTraceElement")
  | 2 => .object "java/util/List"
  | 3 => .object "java/lang/String"
  | 4 => .object "java/lang/Object"
  | _ => .int
abbrev wsJ80 : List Cond := u_ws RJ8 TJ8 6
theorem nmJ8 : ∀ a, a < 6 → ∀ b, b < 6 → a ≠ b → (TJ8 a).2.1 ≠ (TJ8 b).2.1 := by decide +kernel
theorem tyJ8_ok : ∀ k, k < 6 → parseFieldDescriptor (TJ8 k).2.2.1 = some (tyJ8 k) := by decide +kernel
abbrev cJ8_init : ByteArray := prog_15_method_1_code
def yJ8_init : MethodName := ⟨RJ8, "<init>", "()V"⟩
theorem dJ8_init_0 : decode cJ8_init 0 = .ok (.aload_n 0, 1) := by decide +kernel
theorem dJ8_init_1 : decode cJ8_init 1 = .ok (.invokespecial 1, 3) := by decide +kernel
theorem dJ8_init_4 : decode cJ8_init 4 = .ok (.return_, 1) := by decide +kernel
theorem q69 : (Jvm.Cond.initialized "java/lang/IllegalArgumentException") ∈ lw_all := lw_g (lw_at lw_m1 12 rfl) rfl
theorem q259 : (Jvm.Cond.instantiable "java/lang/IllegalArgumentException" (6 : Nat)) ∈ lw_all := lw_g (lw_at lw_m1 202 rfl) rfl
theorem q260 : (Jvm.Cond.castable "java/lang/IllegalArgumentException" "java/lang/IllegalArgumentException") ∈ lw_tbl := lw_at lw_m1 203 rfl
theorem q267 : (Jvm.Cond.selects "java/lang/IllegalArgumentException" ({ cls := "java/lang/Throwable", name := "fillInStackTrace", desc := "(I)Ljava/lang/Throwable;" } : Jvm.MethodName) ({ cls := "java/lang/Throwable", name := "fillInStackTrace", desc := "(I)Ljava/lang/Throwable;" } : Jvm.MethodName)) ∈ lw_all := lw_g (lw_at lw_m1 210 rfl) rfl
theorem q268 : (Jvm.Cond.selects "java/lang/IllegalArgumentException" ({ cls := "java/lang/Throwable", name := "fillInStackTrace", desc := "()Ljava/lang/Throwable;" } : Jvm.MethodName) ({ cls := "java/lang/Throwable", name := "fillInStackTrace", desc := "()Ljava/lang/Throwable;" } : Jvm.MethodName)) ∈ lw_all := lw_g (lw_at lw_m1 211 rfl) rfl
theorem q269 : (Jvm.Cond.lays "java/lang/IllegalArgumentException" "java/lang/Throwable" "cause" "Ljava/lang/Throwable;") ∈ lw_all := lw_g (lw_at lw_m1 212 rfl) rfl
theorem q271 : (Jvm.Cond.lays "java/lang/IllegalArgumentException" "java/lang/Throwable" "stackTrace" "[Ljava/lang/StackTraceElement;") ∈ lw_all := lw_g (lw_at lw_m1 214 rfl) rfl
theorem q273 : (Jvm.Cond.lays "java/lang/IllegalArgumentException" "java/lang/Throwable" "suppressedExceptions" "Ljava/util/List;") ∈ lw_all := lw_g (lw_at lw_m1 216 rfl) rfl
theorem q275 : (Jvm.Cond.lays "java/lang/IllegalArgumentException" "java/lang/Throwable" "detailMessage" "Ljava/lang/String;") ∈ lw_all := lw_g (lw_at lw_m1 218 rfl) rfl
theorem q277 : (Jvm.Cond.lays "java/lang/IllegalArgumentException" "java/lang/Throwable" "backtrace" "Ljava/lang/Object;") ∈ lw_all := lw_g (lw_at lw_m1 220 rfl) rfl
theorem q303 : (Jvm.Cond.instanceMethod ({ cls := "java/lang/IllegalArgumentException", name := "<init>", desc := "()V" } : Jvm.MethodName)) ∈ lw_all := lw_g (lw_at lw_m2 6 rfl) rfl
theorem q304 : (Jvm.Cond.code ({ cls := "java/lang/IllegalArgumentException", name := "<init>", desc := "()V" } : Jvm.MethodName) prog_15_method_1_code (1 : Nat) (Option.none : Option Jvm.ClassFile.FieldType)) ∈ lw_all := lw_g (lw_at lw_m2 7 rfl) rfl
theorem q305 : (Jvm.Cond.methodLink "java/lang/IllegalArgumentException" (1 : Nat) ({ cls := "java/lang/RuntimeException", name := "<init>", desc := "()V" } : Jvm.MethodName)) ∈ lw_all := lw_g (lw_at lw_m2 8 rfl) rfl
theorem q321 : (Jvm.Cond.lays "java/lang/IllegalArgumentException" "java/lang/Throwable" "depth" "I") ∈ lw_all := lw_g (lw_at lw_m2 24 rfl) rfl
theorem q324 : (Jvm.Cond.superclass "java/lang/IllegalArgumentException" "java/lang/RuntimeException") ∈ lw_all := lw_g (lw_at lw_m2 27 rfl) rfl
theorem q901 : (Jvm.Cond.selects "java/lang/IllegalArgumentException" ({ cls := "java/lang/Object", name := "getClass", desc := "()Ljava/lang/Class;" } : Jvm.MethodName) ({ cls := "java/lang/Object", name := "getClass", desc := "()Ljava/lang/Class;" } : Jvm.MethodName)) ∈ lw_all := lw_g (lw_at lw_m4 124 rfl) rfl
theorem q1704 : (Jvm.Cond.castable "java/lang/IllegalArgumentException" "java/lang/Object") ∈ lw_tbl := lw_at lw_m7 207 rfl
theorem in_J8 : ∀ w ∈ wsJ80, w ∈ lw_all := lw_in wsJ80 [269, 271, 273, 275, 277, 321] (by decide +kernel) (by decide +kernel)
/-! java/lang/IllegalStateException -/
set_option maxRecDepth 100000
def RJ9 : String := "java/lang/IllegalStateException"
def TJ9 : u_T := fun k => match k with
  | 0 => ("java/lang/Throwable", "cause", "Ljava/lang/Throwable;", false)
  | 1 => ("java/lang/Throwable", "stackTrace", "[Ljava/lang/StackTraceElement;", false)
  | 2 => ("java/lang/Throwable", "suppressedExceptions", "Ljava/util/List;", false)
  | 3 => ("java/lang/Throwable", "detailMessage", "Ljava/lang/String;", false)
  | 4 => ("java/lang/Throwable", "backtrace", "Ljava/lang/Object;", false)
  | _ => ("java/lang/Throwable", "depth", "I", false)
def tyJ9 : Nat → FieldType := fun k => match k with
  | 0 => .object "java/lang/Throwable"
  | 1 => .array (.object "java/lang/StackTraceElement")
  | 2 => .object "java/util/List"
  | 3 => .object "java/lang/String"
  | 4 => .object "java/lang/Object"
  | _ => .int
abbrev wsJ90 : List Cond := u_ws RJ9 TJ9 6
theorem nmJ9 : ∀ a, a < 6 → ∀ b, b < 6 → a ≠ b → (TJ9 a).2.1 ≠ (TJ9 b).2.1 := by decide +kernel
theorem tyJ9_ok : ∀ k, k < 6 → parseFieldDescriptor (TJ9 k).2.2.1 = some (tyJ9 k) := by decide +kernel
abbrev cJ9_init : ByteArray := prog_16_method_1_code
def yJ9_init : MethodName := ⟨RJ9, "<init>", "()V"⟩
theorem dJ9_init_0 : decode cJ9_init 0 = .ok (.aload_n 0, 1) := by decide +kernel
theorem dJ9_init_1 : decode cJ9_init 1 = .ok (.invokespecial 1, 3) := by decide +kernel
theorem dJ9_init_4 : decode cJ9_init 4 = .ok (.return_, 1) := by decide +kernel
theorem q70 : (Jvm.Cond.initialized "java/lang/IllegalStateException") ∈ lw_all := lw_g (lw_at lw_m1 13 rfl) rfl
theorem q292 : (Jvm.Cond.selects "java/lang/IllegalStateException" ({ cls := "java/lang/Throwable", name := "fillInStackTrace", desc := "()Ljava/lang/Throwable;" } : Jvm.MethodName) ({ cls := "java/lang/Throwable", name := "fillInStackTrace", desc := "()Ljava/lang/Throwable;" } : Jvm.MethodName)) ∈ lw_all := lw_g (lw_at lw_m1 235 rfl) rfl
theorem q329 : (Jvm.Cond.instantiable "java/lang/IllegalStateException" (6 : Nat)) ∈ lw_all := lw_g (lw_at lw_m2 32 rfl) rfl
theorem q330 : (Jvm.Cond.castable "java/lang/IllegalStateException" "java/lang/IllegalStateException") ∈ lw_tbl := lw_at lw_m2 33 rfl
theorem q331 : (Jvm.Cond.selects "java/lang/IllegalStateException" ({ cls := "java/lang/Throwable", name := "fillInStackTrace", desc := "(I)Ljava/lang/Throwable;" } : Jvm.MethodName) ({ cls := "java/lang/Throwable", name := "fillInStackTrace", desc := "(I)Ljava/lang/Throwable;" } : Jvm.MethodName)) ∈ lw_all := lw_g (lw_at lw_m2 34 rfl) rfl
theorem q332 : (Jvm.Cond.lays "java/lang/IllegalStateException" "java/lang/Throwable" "cause" "Ljava/lang/Throwable;") ∈ lw_all := lw_g (lw_at lw_m2 35 rfl) rfl
theorem q333 : (Jvm.Cond.lays "java/lang/IllegalStateException" "java/lang/Throwable" "stackTrace" "[Ljava/lang/StackTraceElement;") ∈ lw_all := lw_g (lw_at lw_m2 36 rfl) rfl
theorem q334 : (Jvm.Cond.lays "java/lang/IllegalStateException" "java/lang/Throwable" "suppressedExceptions" "Ljava/util/List;") ∈ lw_all := lw_g (lw_at lw_m2 37 rfl) rfl
theorem q335 : (Jvm.Cond.lays "java/lang/IllegalStateException" "java/lang/Throwable" "detailMessage" "Ljava/lang/String;") ∈ lw_all := lw_g (lw_at lw_m2 38 rfl) rfl
theorem q336 : (Jvm.Cond.lays "java/lang/IllegalStateException" "java/lang/Throwable" "backtrace" "Ljava/lang/Object;") ∈ lw_all := lw_g (lw_at lw_m2 39 rfl) rfl
theorem q338 : (Jvm.Cond.instanceMethod ({ cls := "java/lang/IllegalStateException", name := "<init>", desc := "()V" } : Jvm.MethodName)) ∈ lw_all := lw_g (lw_at lw_m2 41 rfl) rfl
theorem q339 : (Jvm.Cond.code ({ cls := "java/lang/IllegalStateException", name := "<init>", desc := "()V" } : Jvm.MethodName) prog_16_method_1_code (1 : Nat) (Option.none : Option Jvm.ClassFile.FieldType)) ∈ lw_all := lw_g (lw_at lw_m2 42 rfl) rfl
theorem q340 : (Jvm.Cond.methodLink "java/lang/IllegalStateException" (1 : Nat) ({ cls := "java/lang/RuntimeException", name := "<init>", desc := "()V" } : Jvm.MethodName)) ∈ lw_all := lw_g (lw_at lw_m2 43 rfl) rfl
theorem q341 : (Jvm.Cond.lays "java/lang/IllegalStateException" "java/lang/Throwable" "depth" "I") ∈ lw_all := lw_g (lw_at lw_m2 44 rfl) rfl
theorem q342 : (Jvm.Cond.superclass "java/lang/IllegalStateException" "java/lang/RuntimeException") ∈ lw_all := lw_g (lw_at lw_m2 45 rfl) rfl
theorem q902 : (Jvm.Cond.selects "java/lang/IllegalStateException" ({ cls := "java/lang/Object", name := "getClass", desc := "()Ljava/lang/Class;" } : Jvm.MethodName) ({ cls := "java/lang/Object", name := "getClass", desc := "()Ljava/lang/Class;" } : Jvm.MethodName)) ∈ lw_all := lw_g (lw_at lw_m4 125 rfl) rfl
theorem q1705 : (Jvm.Cond.castable "java/lang/IllegalStateException" "java/lang/Object") ∈ lw_tbl := lw_at lw_m7 208 rfl
theorem in_J9 : ∀ w ∈ wsJ90, w ∈ lw_all := lw_in wsJ90 [332, 333, 334, 335, 336, 341] (by decide +kernel) (by decide +kernel)
/-! java/lang/IndexOutOfBoundsException -/
set_option maxRecDepth 100000
def RJ10 : String := "java/lang/IndexOutOfBoundsException"
def TJ10 : u_T := fun k => match k with
  | 0 => ("java/lang/Throwable", "cause", "Ljava/lang/Throwable;", false)
  | 1 => ("java/lang/Throwable", "stackTrace", "[Ljava/lang/StackTraceElement;", false)
  | 2 => ("java/lang/Throwable", "suppressedExceptions", "Ljava/util/List;", false)
  | 3 => ("java/lang/Throwable", "detailMessage", "Ljava/lang/String;", false)
  | 4 => ("java/lang/Throwable", "backtrace", "Ljava/lang/Object;", false)
  | _ => ("java/lang/Throwable", "depth", "I", false)
def tyJ10 : Nat → FieldType := fun k => match k with
  | 0 => .object "java/lang/Throwable"
  | 1 => .array (.object "java/lang/StackTraceElement")
  | 2 => .object "java/util/List"
  | 3 => .object "java/lang/String"
  | 4 => .object "java/lang/Object"
  | _ => .int
abbrev wsJ100 : List Cond := u_ws RJ10 TJ10 6
theorem nmJ10 : ∀ a, a < 6 → ∀ b, b < 6 → a ≠ b → (TJ10 a).2.1 ≠ (TJ10 b).2.1 := by decide +kernel
theorem tyJ10_ok : ∀ k, k < 6 → parseFieldDescriptor (TJ10 k).2.2.1 = some (tyJ10 k) := by decide +kernel
abbrev cJ10_init : ByteArray := prog_17_method_2_code
def yJ10_init : MethodName := ⟨RJ10, "<init>", "(Ljava/lang/String;)V"⟩
def dkwJ10_init_0 : List UInt8 := [42, 43, 183, 0, 7, 177]
abbrev dktJ10_init_0 : List UInt8 := dkwJ10_init_0 ++ []
theorem dksJ10_init_0 : cJ10_init.data.toList.drop 0 = dktJ10_init_0 := by decide +kernel
theorem dJ10_init_0 : decode cJ10_init 0 = .ok (.aload_n 0, 1) := dk_42 (dk_at dksJ10_init_0 0 rfl rfl)
theorem dJ10_init_1 : decode cJ10_init 1 = .ok (.aload_n 1, 1) := dk_43 (dk_at dksJ10_init_0 1 rfl rfl)
theorem dJ10_init_2 : decode cJ10_init 2 = .ok (.invokespecial 7, 3) := dk_183 0 7 (dk_at dksJ10_init_0 2 rfl rfl)
theorem dJ10_init_5 : decode cJ10_init 5 = .ok (.return_, 1) := dk_177 (dk_at dksJ10_init_0 5 rfl rfl)
abbrev cJ10_init_2 : ByteArray := prog_17_method_1_code
def yJ10_init_2 : MethodName := ⟨RJ10, "<init>", "()V"⟩
theorem dJ10_init_2_0 : decode cJ10_init_2 0 = .ok (.aload_n 0, 1) := by decide +kernel
theorem dJ10_init_2_1 : decode cJ10_init_2 1 = .ok (.invokespecial 1, 3) := by decide +kernel
theorem dJ10_init_2_4 : decode cJ10_init_2 4 = .ok (.return_, 1) := by decide +kernel
theorem q71 : (Jvm.Cond.initialized "java/lang/IndexOutOfBoundsException") ∈ lw_all := lw_g (lw_at lw_m1 14 rfl) rfl
theorem q293 : (Jvm.Cond.selects "java/lang/IndexOutOfBoundsException" ({ cls := "java/lang/Throwable", name := "fillInStackTrace", desc := "()Ljava/lang/Throwable;" } : Jvm.MethodName) ({ cls := "java/lang/Throwable", name := "fillInStackTrace", desc := "()Ljava/lang/Throwable;" } : Jvm.MethodName)) ∈ lw_all := lw_g (lw_at lw_m1 236 rfl) rfl
theorem q351 : (Jvm.Cond.instanceMethod ({ cls := "java/lang/IndexOutOfBoundsException", name := "<init>", desc := "(Ljava/lang/String;)V" } : Jvm.MethodName)) ∈ lw_all := lw_g (lw_at lw_m2 54 rfl) rfl
theorem q352 : (Jvm.Cond.code ({ cls := "java/lang/IndexOutOfBoundsException", name := "<init>", desc := "(Ljava/lang/String;)V" } : Jvm.MethodName) prog_17_method_2_code (2 : Nat) (Option.none : Option Jvm.ClassFile.FieldType)) ∈ lw_all := lw_g (lw_at lw_m2 55 rfl) rfl
theorem q353 : (Jvm.Cond.methodLink "java/lang/IndexOutOfBoundsException" (7 : Nat) ({ cls := "java/lang/RuntimeException", name := "<init>", desc := "(Ljava/lang/String;)V" } : Jvm.MethodName)) ∈ lw_all := lw_g (lw_at lw_m2 56 rfl) rfl
theorem q370 : (Jvm.Cond.declares ({ cls := "java/lang/IndexOutOfBoundsException", name := "<init>", desc := "()V" } : Jvm.MethodName)) ∈ lw_tbl := lw_at lw_m2 73 rfl
theorem q371 : (Jvm.Cond.declares ({ cls := "java/lang/IndexOutOfBoundsException", name := "<init>", desc := "(Ljava/lang/String;)V" } : Jvm.MethodName)) ∈ lw_tbl := lw_at lw_m2 74 rfl
theorem q392 : (Jvm.Cond.instantiable "java/lang/IndexOutOfBoundsException" (6 : Nat)) ∈ lw_all := lw_g (lw_at lw_m2 95 rfl) rfl
theorem q393 : (Jvm.Cond.castable "java/lang/IndexOutOfBoundsException" "java/lang/IndexOutOfBoundsException") ∈ lw_tbl := lw_at lw_m2 96 rfl
theorem q394 : (Jvm.Cond.selects "java/lang/IndexOutOfBoundsException" ({ cls := "java/lang/Throwable", name := "fillInStackTrace", desc := "(I)Ljava/lang/Throwable;" } : Jvm.MethodName) ({ cls := "java/lang/Throwable", name := "fillInStackTrace", desc := "(I)Ljava/lang/Throwable;" } : Jvm.MethodName)) ∈ lw_all := lw_g (lw_at lw_m2 97 rfl) rfl
theorem q395 : (Jvm.Cond.lays "java/lang/IndexOutOfBoundsException" "java/lang/Throwable" "cause" "Ljava/lang/Throwable;") ∈ lw_all := lw_g (lw_at lw_m2 98 rfl) rfl
theorem q396 : (Jvm.Cond.lays "java/lang/IndexOutOfBoundsException" "java/lang/Throwable" "stackTrace" "[Ljava/lang/StackTraceElement;") ∈ lw_all := lw_g (lw_at lw_m2 99 rfl) rfl
theorem q397 : (Jvm.Cond.lays "java/lang/IndexOutOfBoundsException" "java/lang/Throwable" "suppressedExceptions" "Ljava/util/List;") ∈ lw_all := lw_g (lw_at lw_m2 100 rfl) rfl
theorem q398 : (Jvm.Cond.lays "java/lang/IndexOutOfBoundsException" "java/lang/Throwable" "detailMessage" "Ljava/lang/String;") ∈ lw_all := lw_g (lw_at lw_m2 101 rfl) rfl
theorem q399 : (Jvm.Cond.lays "java/lang/IndexOutOfBoundsException" "java/lang/Throwable" "backtrace" "Ljava/lang/Object;") ∈ lw_all := lw_g (lw_at lw_m2 102 rfl) rfl
theorem q401 : (Jvm.Cond.instanceMethod ({ cls := "java/lang/IndexOutOfBoundsException", name := "<init>", desc := "()V" } : Jvm.MethodName)) ∈ lw_all := lw_g (lw_at lw_m2 104 rfl) rfl
theorem q402 : (Jvm.Cond.code ({ cls := "java/lang/IndexOutOfBoundsException", name := "<init>", desc := "()V" } : Jvm.MethodName) prog_17_method_1_code (1 : Nat) (Option.none : Option Jvm.ClassFile.FieldType)) ∈ lw_all := lw_g (lw_at lw_m2 105 rfl) rfl
theorem q403 : (Jvm.Cond.methodLink "java/lang/IndexOutOfBoundsException" (1 : Nat) ({ cls := "java/lang/RuntimeException", name := "<init>", desc := "()V" } : Jvm.MethodName)) ∈ lw_all := lw_g (lw_at lw_m2 106 rfl) rfl
theorem q404 : (Jvm.Cond.lays "java/lang/IndexOutOfBoundsException" "java/lang/Throwable" "depth" "I") ∈ lw_all := lw_g (lw_at lw_m2 107 rfl) rfl
theorem q405 : (Jvm.Cond.superclass "java/lang/IndexOutOfBoundsException" "java/lang/RuntimeException") ∈ lw_all := lw_g (lw_at lw_m2 108 rfl) rfl
theorem q903 : (Jvm.Cond.selects "java/lang/IndexOutOfBoundsException" ({ cls := "java/lang/Object", name := "getClass", desc := "()Ljava/lang/Class;" } : Jvm.MethodName) ({ cls := "java/lang/Object", name := "getClass", desc := "()Ljava/lang/Class;" } : Jvm.MethodName)) ∈ lw_all := lw_g (lw_at lw_m4 126 rfl) rfl
theorem q1707 : (Jvm.Cond.castable "java/lang/IndexOutOfBoundsException" "java/lang/Object") ∈ lw_tbl := lw_at lw_m7 210 rfl
theorem in_J10 : ∀ w ∈ wsJ100, w ∈ lw_all := lw_in wsJ100 [395, 396, 397, 398, 399, 404] (by decide +kernel) (by decide +kernel)
/-! java/lang/ArrayIndexOutOfBoundsException -/
set_option maxRecDepth 100000
def RJ11 : String := "java/lang/ArrayIndexOutOfBoundsException"
def TJ11 : u_T := fun k => match k with
  | 0 => ("java/lang/Throwable", "backtrace", "Ljava/lang/Object;", false)
  | 1 => ("java/lang/Throwable", "detailMessage", "Ljava/lang/String;", false)
  | 2 => ("java/lang/Throwable", "cause", "Ljava/lang/Throwable;", false)
  | 3 => ("java/lang/Throwable", "stackTrace", "[Ljava/lang/StackTraceElement;", false)
  | 4 => ("java/lang/Throwable", "depth", "I", false)
  | _ => ("java/lang/Throwable", "suppressedExceptions", "Ljava/util/List;", false)
def tyJ11 : Nat → FieldType := fun k => match k with
  | 0 => .object "java/lang/Object"
  | 1 => .object "java/lang/String"
  | 2 => .object "java/lang/Throwable"
  | 3 => .array (.object "java/lang/StackTraceElement")
  | 4 => .int
  | _ => .object "java/util/List"
abbrev wsJ110 : List Cond := u_ws RJ11 TJ11 6
theorem nmJ11 : ∀ a, a < 6 → ∀ b, b < 6 → a ≠ b → (TJ11 a).2.1 ≠ (TJ11 b).2.1 := by decide +kernel
theorem tyJ11_ok : ∀ k, k < 6 → parseFieldDescriptor (TJ11 k).2.2.1 = some (tyJ11 k) := by decide +kernel
abbrev cJ11_init : ByteArray := prog_11_method_2_code
def yJ11_init : MethodName := ⟨RJ11, "<init>", "(Ljava/lang/String;)V"⟩
def dkwJ11_init_0 : List UInt8 := [42, 43, 183, 0, 7, 177]
abbrev dktJ11_init_0 : List UInt8 := dkwJ11_init_0 ++ []
theorem dksJ11_init_0 : cJ11_init.data.toList.drop 0 = dktJ11_init_0 := by decide +kernel
theorem dJ11_init_0 : decode cJ11_init 0 = .ok (.aload_n 0, 1) := dk_42 (dk_at dksJ11_init_0 0 rfl rfl)
theorem dJ11_init_1 : decode cJ11_init 1 = .ok (.aload_n 1, 1) := dk_43 (dk_at dksJ11_init_0 1 rfl rfl)
theorem dJ11_init_2 : decode cJ11_init 2 = .ok (.invokespecial 7, 3) := dk_183 0 7 (dk_at dksJ11_init_0 2 rfl rfl)
theorem dJ11_init_5 : decode cJ11_init 5 = .ok (.return_, 1) := dk_177 (dk_at dksJ11_init_0 5 rfl rfl)
theorem q72 : (Jvm.Cond.initialized "java/lang/ArrayIndexOutOfBoundsException") ∈ lw_all := lw_g (lw_at lw_m1 15 rfl) rfl
theorem q291 : (Jvm.Cond.selects "java/lang/ArrayIndexOutOfBoundsException" ({ cls := "java/lang/Throwable", name := "fillInStackTrace", desc := "()Ljava/lang/Throwable;" } : Jvm.MethodName) ({ cls := "java/lang/Throwable", name := "fillInStackTrace", desc := "()Ljava/lang/Throwable;" } : Jvm.MethodName)) ∈ lw_all := lw_g (lw_at lw_m1 234 rfl) rfl
theorem q347 : (Jvm.Cond.instantiable "java/lang/ArrayIndexOutOfBoundsException" (6 : Nat)) ∈ lw_all := lw_g (lw_at lw_m2 50 rfl) rfl
theorem q348 : (Jvm.Cond.instanceMethod ({ cls := "java/lang/ArrayIndexOutOfBoundsException", name := "<init>", desc := "(Ljava/lang/String;)V" } : Jvm.MethodName)) ∈ lw_all := lw_g (lw_at lw_m2 51 rfl) rfl
theorem q349 : (Jvm.Cond.code ({ cls := "java/lang/ArrayIndexOutOfBoundsException", name := "<init>", desc := "(Ljava/lang/String;)V" } : Jvm.MethodName) prog_11_method_2_code (2 : Nat) (Option.none : Option Jvm.ClassFile.FieldType)) ∈ lw_all := lw_g (lw_at lw_m2 52 rfl) rfl
theorem q350 : (Jvm.Cond.methodLink "java/lang/ArrayIndexOutOfBoundsException" (7 : Nat) ({ cls := "java/lang/IndexOutOfBoundsException", name := "<init>", desc := "(Ljava/lang/String;)V" } : Jvm.MethodName)) ∈ lw_all := lw_g (lw_at lw_m2 53 rfl) rfl
theorem q362 : (Jvm.Cond.lays "java/lang/ArrayIndexOutOfBoundsException" "java/lang/Throwable" "backtrace" "Ljava/lang/Object;") ∈ lw_all := lw_g (lw_at lw_m2 65 rfl) rfl
theorem q363 : (Jvm.Cond.lays "java/lang/ArrayIndexOutOfBoundsException" "java/lang/Throwable" "detailMessage" "Ljava/lang/String;") ∈ lw_all := lw_g (lw_at lw_m2 66 rfl) rfl
theorem q364 : (Jvm.Cond.lays "java/lang/ArrayIndexOutOfBoundsException" "java/lang/Throwable" "cause" "Ljava/lang/Throwable;") ∈ lw_all := lw_g (lw_at lw_m2 67 rfl) rfl
theorem q365 : (Jvm.Cond.lays "java/lang/ArrayIndexOutOfBoundsException" "java/lang/Throwable" "stackTrace" "[Ljava/lang/StackTraceElement;") ∈ lw_all := lw_g (lw_at lw_m2 68 rfl) rfl
theorem q366 : (Jvm.Cond.lays "java/lang/ArrayIndexOutOfBoundsException" "java/lang/Throwable" "depth" "I") ∈ lw_all := lw_g (lw_at lw_m2 69 rfl) rfl
theorem q367 : (Jvm.Cond.lays "java/lang/ArrayIndexOutOfBoundsException" "java/lang/Throwable" "suppressedExceptions" "Ljava/util/List;") ∈ lw_all := lw_g (lw_at lw_m2 70 rfl) rfl
theorem q368 : (Jvm.Cond.superclass "java/lang/ArrayIndexOutOfBoundsException" "java/lang/IndexOutOfBoundsException") ∈ lw_all := lw_g (lw_at lw_m2 71 rfl) rfl
theorem q369 : (Jvm.Cond.castable "java/lang/ArrayIndexOutOfBoundsException" "java/lang/ArrayIndexOutOfBoundsException") ∈ lw_tbl := lw_at lw_m2 72 rfl
theorem q372 : (Jvm.Cond.selects "java/lang/ArrayIndexOutOfBoundsException" ({ cls := "java/lang/Throwable", name := "fillInStackTrace", desc := "(I)Ljava/lang/Throwable;" } : Jvm.MethodName) ({ cls := "java/lang/Throwable", name := "fillInStackTrace", desc := "(I)Ljava/lang/Throwable;" } : Jvm.MethodName)) ∈ lw_all := lw_g (lw_at lw_m2 75 rfl) rfl
theorem q900 : (Jvm.Cond.selects "java/lang/ArrayIndexOutOfBoundsException" ({ cls := "java/lang/Object", name := "getClass", desc := "()Ljava/lang/Class;" } : Jvm.MethodName) ({ cls := "java/lang/Object", name := "getClass", desc := "()Ljava/lang/Class;" } : Jvm.MethodName)) ∈ lw_all := lw_g (lw_at lw_m4 123 rfl) rfl
theorem q1696 : (Jvm.Cond.castable "java/lang/ArrayIndexOutOfBoundsException" "java/lang/IndexOutOfBoundsException") ∈ lw_tbl := lw_at lw_m7 199 rfl
theorem q1706 : (Jvm.Cond.castable "java/lang/ArrayIndexOutOfBoundsException" "java/lang/Object") ∈ lw_tbl := lw_at lw_m7 209 rfl
theorem in_J11 : ∀ w ∈ wsJ110, w ∈ lw_all := lw_in wsJ110 [362, 363, 364, 365, 366, 367] (by decide +kernel) (by decide +kernel)
/-! java/lang/String -/
set_option maxRecDepth 100000
def RJ12 : String := "java/lang/String"
def TJ12 : u_T := fun k => match k with
  | 0 => ("java/lang/String", "value", "[B", true)
  | _ => ("java/lang/String", "coder", "B", true)
def tyJ12 : Nat → FieldType := fun k => match k with
  | 0 => .array .byte
  | _ => .byte
abbrev wsJ120 : List Cond := u_ws RJ12 TJ12 2
theorem nmJ12 : ∀ a, a < 2 → ∀ b, b < 2 → a ≠ b → (TJ12 a).2.1 ≠ (TJ12 b).2.1 := by decide +kernel
theorem tyJ12_ok : ∀ k, k < 2 → parseFieldDescriptor (TJ12 k).2.2.1 = some (tyJ12 k) := by decide +kernel
theorem q73 : (Jvm.Cond.initialized "java/lang/String") ∈ lw_all := lw_g (lw_at lw_m1 16 rfl) rfl
theorem q373 : (Jvm.Cond.instantiable "java/lang/String" (4 : Nat)) ∈ lw_all := lw_g (lw_at lw_m2 76 rfl) rfl
theorem q375 : (Jvm.Cond.laysFinal "java/lang/String" "java/lang/String" "value" "[B") ∈ lw_all := lw_g (lw_at lw_m2 78 rfl) rfl
theorem q376 : (Jvm.Cond.soleField "java/lang/String" "value") ∈ lw_all := lw_g (lw_at lw_m2 79 rfl) rfl
theorem q377 : (Jvm.Cond.laysFinal "java/lang/String" "java/lang/String" "coder" "B") ∈ lw_all := lw_g (lw_at lw_m2 80 rfl) rfl
theorem q378 : (Jvm.Cond.soleField "java/lang/String" "coder") ∈ lw_all := lw_g (lw_at lw_m2 81 rfl) rfl
theorem q1697 : (Jvm.Cond.castable "java/lang/String" "java/lang/Comparable") ∈ lw_tbl := lw_at lw_m7 200 rfl
theorem q1721 : (Jvm.Cond.castable "java/lang/String" "java/lang/Object") ∈ lw_tbl := lw_at lw_m7 224 rfl
theorem in_J12 : ∀ w ∈ wsJ120, w ∈ lw_all := lw_in wsJ120 [375, 377] (by decide +kernel) (by decide +kernel)
/-! java/lang/UnsupportedOperationException -/
set_option maxRecDepth 100000
def RJ13 : String := "java/lang/UnsupportedOperationException"
def TJ13 : u_T := fun k => match k with
  | 0 => ("java/lang/Throwable", "cause", "Ljava/lang/Throwable;", false)
  | 1 => ("java/lang/Throwable", "stackTrace", "[Ljava/lang/StackTraceElement;", false)
  | 2 => ("java/lang/Throwable", "suppressedExceptions", "Ljava/util/List;", false)
  | 3 => ("java/lang/Throwable", "detailMessage", "Ljava/lang/String;", false)
  | 4 => ("java/lang/Throwable", "backtrace", "Ljava/lang/Object;", false)
  | _ => ("java/lang/Throwable", "depth", "I", false)
def tyJ13 : Nat → FieldType := fun k => match k with
  | 0 => .object "java/lang/Throwable"
  | 1 => .array (.object "java/lang/StackTraceElement")
  | 2 => .object "java/util/List"
  | 3 => .object "java/lang/String"
  | 4 => .object "java/lang/Object"
  | _ => .int
abbrev wsJ130 : List Cond := u_ws RJ13 TJ13 6
theorem nmJ13 : ∀ a, a < 6 → ∀ b, b < 6 → a ≠ b → (TJ13 a).2.1 ≠ (TJ13 b).2.1 := by decide +kernel
theorem tyJ13_ok : ∀ k, k < 6 → parseFieldDescriptor (TJ13 k).2.2.1 = some (tyJ13 k) := by decide +kernel
abbrev cJ13_init : ByteArray := prog_27_method_1_code
def yJ13_init : MethodName := ⟨RJ13, "<init>", "()V"⟩
theorem dJ13_init_0 : decode cJ13_init 0 = .ok (.aload_n 0, 1) := by decide +kernel
theorem dJ13_init_1 : decode cJ13_init 1 = .ok (.invokespecial 1, 3) := by decide +kernel
theorem dJ13_init_4 : decode cJ13_init 4 = .ok (.return_, 1) := by decide +kernel
theorem q75 : (Jvm.Cond.initialized "java/lang/UnsupportedOperationException") ∈ lw_all := lw_g (lw_at lw_m1 18 rfl) rfl
theorem q294 : (Jvm.Cond.selects "java/lang/UnsupportedOperationException" ({ cls := "java/lang/Throwable", name := "fillInStackTrace", desc := "()Ljava/lang/Throwable;" } : Jvm.MethodName) ({ cls := "java/lang/Throwable", name := "fillInStackTrace", desc := "()Ljava/lang/Throwable;" } : Jvm.MethodName)) ∈ lw_all := lw_g (lw_at lw_m1 237 rfl) rfl
theorem q446 : (Jvm.Cond.instantiable "java/lang/UnsupportedOperationException" (6 : Nat)) ∈ lw_all := lw_g (lw_at lw_m2 149 rfl) rfl
theorem q447 : (Jvm.Cond.castable "java/lang/UnsupportedOperationException" "java/lang/UnsupportedOperationException") ∈ lw_tbl := lw_at lw_m2 150 rfl
theorem q448 : (Jvm.Cond.selects "java/lang/UnsupportedOperationException" ({ cls := "java/lang/Throwable", name := "fillInStackTrace", desc := "(I)Ljava/lang/Throwable;" } : Jvm.MethodName) ({ cls := "java/lang/Throwable", name := "fillInStackTrace", desc := "(I)Ljava/lang/Throwable;" } : Jvm.MethodName)) ∈ lw_all := lw_g (lw_at lw_m2 151 rfl) rfl
theorem q449 : (Jvm.Cond.lays "java/lang/UnsupportedOperationException" "java/lang/Throwable" "cause" "Ljava/lang/Throwable;") ∈ lw_all := lw_g (lw_at lw_m2 152 rfl) rfl
theorem q450 : (Jvm.Cond.lays "java/lang/UnsupportedOperationException" "java/lang/Throwable" "stackTrace" "[Ljava/lang/StackTraceElement;") ∈ lw_all := lw_g (lw_at lw_m2 153 rfl) rfl
theorem q451 : (Jvm.Cond.lays "java/lang/UnsupportedOperationException" "java/lang/Throwable" "suppressedExceptions" "Ljava/util/List;") ∈ lw_all := lw_g (lw_at lw_m2 154 rfl) rfl
theorem q452 : (Jvm.Cond.lays "java/lang/UnsupportedOperationException" "java/lang/Throwable" "detailMessage" "Ljava/lang/String;") ∈ lw_all := lw_g (lw_at lw_m2 155 rfl) rfl
theorem q453 : (Jvm.Cond.lays "java/lang/UnsupportedOperationException" "java/lang/Throwable" "backtrace" "Ljava/lang/Object;") ∈ lw_all := lw_g (lw_at lw_m2 156 rfl) rfl
theorem q455 : (Jvm.Cond.instanceMethod ({ cls := "java/lang/UnsupportedOperationException", name := "<init>", desc := "()V" } : Jvm.MethodName)) ∈ lw_all := lw_g (lw_at lw_m2 158 rfl) rfl
theorem q456 : (Jvm.Cond.code ({ cls := "java/lang/UnsupportedOperationException", name := "<init>", desc := "()V" } : Jvm.MethodName) prog_27_method_1_code (1 : Nat) (Option.none : Option Jvm.ClassFile.FieldType)) ∈ lw_all := lw_g (lw_at lw_m2 159 rfl) rfl
theorem q457 : (Jvm.Cond.methodLink "java/lang/UnsupportedOperationException" (1 : Nat) ({ cls := "java/lang/RuntimeException", name := "<init>", desc := "()V" } : Jvm.MethodName)) ∈ lw_all := lw_g (lw_at lw_m2 160 rfl) rfl
theorem q458 : (Jvm.Cond.lays "java/lang/UnsupportedOperationException" "java/lang/Throwable" "depth" "I") ∈ lw_all := lw_g (lw_at lw_m2 161 rfl) rfl
theorem q459 : (Jvm.Cond.superclass "java/lang/UnsupportedOperationException" "java/lang/RuntimeException") ∈ lw_all := lw_g (lw_at lw_m2 162 rfl) rfl
theorem q905 : (Jvm.Cond.selects "java/lang/UnsupportedOperationException" ({ cls := "java/lang/Object", name := "getClass", desc := "()Ljava/lang/Class;" } : Jvm.MethodName) ({ cls := "java/lang/Object", name := "getClass", desc := "()Ljava/lang/Class;" } : Jvm.MethodName)) ∈ lw_all := lw_g (lw_at lw_m4 128 rfl) rfl
theorem q1708 : (Jvm.Cond.castable "java/lang/UnsupportedOperationException" "java/lang/Object") ∈ lw_tbl := lw_at lw_m7 211 rfl
theorem in_J13 : ∀ w ∈ wsJ130, w ∈ lw_all := lw_in wsJ130 [449, 450, 451, 452, 453, 458] (by decide +kernel) (by decide +kernel)
/-! java/util/NoSuchElementException -/
set_option maxRecDepth 100000
def RJ14 : String := "java/util/NoSuchElementException"
def TJ14 : u_T := fun k => match k with
  | 0 => ("java/lang/Throwable", "cause", "Ljava/lang/Throwable;", false)
  | 1 => ("java/lang/Throwable", "stackTrace", "[Ljava/lang/StackTraceElement;", false)
  | 2 => ("java/lang/Throwable", "suppressedExceptions", "Ljava/util/List;", false)
  | 3 => ("java/lang/Throwable", "detailMessage", "Ljava/lang/String;", false)
  | 4 => ("java/lang/Throwable", "backtrace", "Ljava/lang/Object;", false)
  | _ => ("java/lang/Throwable", "depth", "I", false)
def tyJ14 : Nat → FieldType := fun k => match k with
  | 0 => .object "java/lang/Throwable"
  | 1 => .array (.object "java/lang/StackTraceElement")
  | 2 => .object "java/util/List"
  | 3 => .object "java/lang/String"
  | 4 => .object "java/lang/Object"
  | _ => .int
abbrev wsJ140 : List Cond := u_ws RJ14 TJ14 6
theorem nmJ14 : ∀ a, a < 6 → ∀ b, b < 6 → a ≠ b → (TJ14 a).2.1 ≠ (TJ14 b).2.1 := by decide +kernel
theorem tyJ14_ok : ∀ k, k < 6 → parseFieldDescriptor (TJ14 k).2.2.1 = some (tyJ14 k) := by decide +kernel
abbrev cJ14_init : ByteArray := prog_46_method_1_code
def yJ14_init : MethodName := ⟨RJ14, "<init>", "()V"⟩
theorem dJ14_init_0 : decode cJ14_init 0 = .ok (.aload_n 0, 1) := by decide +kernel
theorem dJ14_init_1 : decode cJ14_init 1 = .ok (.invokespecial 1, 3) := by decide +kernel
theorem dJ14_init_4 : decode cJ14_init 4 = .ok (.return_, 1) := by decide +kernel
theorem q76 : (Jvm.Cond.initialized "java/util/NoSuchElementException") ∈ lw_all := lw_g (lw_at lw_m1 19 rfl) rfl
theorem q295 : (Jvm.Cond.selects "java/util/NoSuchElementException" ({ cls := "java/lang/Throwable", name := "fillInStackTrace", desc := "()Ljava/lang/Throwable;" } : Jvm.MethodName) ({ cls := "java/lang/Throwable", name := "fillInStackTrace", desc := "()Ljava/lang/Throwable;" } : Jvm.MethodName)) ∈ lw_all := lw_g (lw_at lw_m1 238 rfl) rfl
theorem q529 : (Jvm.Cond.instantiable "java/util/NoSuchElementException" (6 : Nat)) ∈ lw_all := lw_g (lw_at lw_m2 232 rfl) rfl
theorem q530 : (Jvm.Cond.castable "java/util/NoSuchElementException" "java/util/NoSuchElementException") ∈ lw_tbl := lw_at lw_m2 233 rfl
theorem q531 : (Jvm.Cond.selects "java/util/NoSuchElementException" ({ cls := "java/lang/Throwable", name := "fillInStackTrace", desc := "(I)Ljava/lang/Throwable;" } : Jvm.MethodName) ({ cls := "java/lang/Throwable", name := "fillInStackTrace", desc := "(I)Ljava/lang/Throwable;" } : Jvm.MethodName)) ∈ lw_all := lw_g (lw_at lw_m2 234 rfl) rfl
theorem q532 : (Jvm.Cond.lays "java/util/NoSuchElementException" "java/lang/Throwable" "cause" "Ljava/lang/Throwable;") ∈ lw_all := lw_g (lw_at lw_m2 235 rfl) rfl
theorem q533 : (Jvm.Cond.lays "java/util/NoSuchElementException" "java/lang/Throwable" "stackTrace" "[Ljava/lang/StackTraceElement;") ∈ lw_all := lw_g (lw_at lw_m2 236 rfl) rfl
theorem q534 : (Jvm.Cond.lays "java/util/NoSuchElementException" "java/lang/Throwable" "suppressedExceptions" "Ljava/util/List;") ∈ lw_all := lw_g (lw_at lw_m2 237 rfl) rfl
theorem q535 : (Jvm.Cond.lays "java/util/NoSuchElementException" "java/lang/Throwable" "detailMessage" "Ljava/lang/String;") ∈ lw_all := lw_g (lw_at lw_m2 238 rfl) rfl
theorem q536 : (Jvm.Cond.lays "java/util/NoSuchElementException" "java/lang/Throwable" "backtrace" "Ljava/lang/Object;") ∈ lw_all := lw_g (lw_at lw_m2 239 rfl) rfl
theorem q538 : (Jvm.Cond.instanceMethod ({ cls := "java/util/NoSuchElementException", name := "<init>", desc := "()V" } : Jvm.MethodName)) ∈ lw_all := lw_g (lw_at lw_m3 1 rfl) rfl
theorem q539 : (Jvm.Cond.code ({ cls := "java/util/NoSuchElementException", name := "<init>", desc := "()V" } : Jvm.MethodName) prog_46_method_1_code (1 : Nat) (Option.none : Option Jvm.ClassFile.FieldType)) ∈ lw_all := lw_g (lw_at lw_m3 2 rfl) rfl
theorem q540 : (Jvm.Cond.methodLink "java/util/NoSuchElementException" (1 : Nat) ({ cls := "java/lang/RuntimeException", name := "<init>", desc := "()V" } : Jvm.MethodName)) ∈ lw_all := lw_g (lw_at lw_m3 3 rfl) rfl
theorem q541 : (Jvm.Cond.lays "java/util/NoSuchElementException" "java/lang/Throwable" "depth" "I") ∈ lw_all := lw_g (lw_at lw_m3 4 rfl) rfl
theorem q542 : (Jvm.Cond.superclass "java/util/NoSuchElementException" "java/lang/RuntimeException") ∈ lw_all := lw_g (lw_at lw_m3 5 rfl) rfl
theorem q909 : (Jvm.Cond.selects "java/util/NoSuchElementException" ({ cls := "java/lang/Object", name := "getClass", desc := "()Ljava/lang/Class;" } : Jvm.MethodName) ({ cls := "java/lang/Object", name := "getClass", desc := "()Ljava/lang/Class;" } : Jvm.MethodName)) ∈ lw_all := lw_g (lw_at lw_m4 132 rfl) rfl
theorem q1709 : (Jvm.Cond.castable "java/util/NoSuchElementException" "java/lang/Object") ∈ lw_tbl := lw_at lw_m7 212 rfl
theorem in_J14 : ∀ w ∈ wsJ140, w ∈ lw_all := lw_in wsJ140 [532, 533, 534, 535, 536, 541] (by decide +kernel) (by decide +kernel)
/-! java/util/ArrayList$Itr -/
set_option maxRecDepth 100000
def RJ15 : String := "java/util/ArrayList$Itr"
def TJ15 : u_T := fun k => match k with
  | 0 => ("java/util/ArrayList$Itr", "cursor", "I", false)
  | 1 => ("java/util/ArrayList$Itr", "lastRet", "I", false)
  | 2 => ("java/util/ArrayList$Itr", "expectedModCount", "I", false)
  | _ => ("java/util/ArrayList$Itr", "this$0", "Ljava/util/ArrayList;", true)
def tyJ15 : Nat → FieldType := fun k => match k with
  | 0 => .int
  | 1 => .int
  | 2 => .int
  | _ => .object "java/util/ArrayList"
abbrev wsJ150 : List Cond := u_ws RJ15 TJ15 4
theorem nmJ15 : ∀ a, a < 4 → ∀ b, b < 4 → a ≠ b → (TJ15 a).2.1 ≠ (TJ15 b).2.1 := by decide +kernel
theorem tyJ15_ok : ∀ k, k < 4 → parseFieldDescriptor (TJ15 k).2.2.1 = some (tyJ15 k) := by decide +kernel
abbrev cJ15_init : ByteArray := prog_37_method_1_code
def yJ15_init : MethodName := ⟨RJ15, "<init>", "(Ljava/util/ArrayList;)V"⟩
def dkwJ15_init_1 : List UInt8 := [181, 0, 22, 177]
abbrev dktJ15_init_1 : List UInt8 := dkwJ15_init_1 ++ []
def dkwJ15_init_0 : List UInt8 := [42, 43, 181, 0, 1, 42, 183, 0, 7, 42, 2, 181, 0, 13, 42, 42, 180, 0, 1, 180, 0, 17]
abbrev dktJ15_init_0 : List UInt8 := dkwJ15_init_0 ++ dktJ15_init_1
theorem dksJ15_init_0 : cJ15_init.data.toList.drop 0 = dktJ15_init_0 := by decide +kernel
theorem dksJ15_init_1 : cJ15_init.data.toList.drop 22 = dktJ15_init_1 := dk_seg dksJ15_init_0 22 rfl rfl
theorem dJ15_init_0 : decode cJ15_init 0 = .ok (.aload_n 0, 1) := dk_42 (dk_at dksJ15_init_0 0 rfl rfl)
theorem dJ15_init_1 : decode cJ15_init 1 = .ok (.aload_n 1, 1) := dk_43 (dk_at dksJ15_init_0 1 rfl rfl)
theorem dJ15_init_2 : decode cJ15_init 2 = .ok (.putfield 1, 3) := dk_181 0 1 (dk_at dksJ15_init_0 2 rfl rfl)
theorem dJ15_init_5 : decode cJ15_init 5 = .ok (.aload_n 0, 1) := dk_42 (dk_at dksJ15_init_0 5 rfl rfl)
theorem dJ15_init_6 : decode cJ15_init 6 = .ok (.invokespecial 7, 3) := dk_183 0 7 (dk_at dksJ15_init_0 6 rfl rfl)
theorem dJ15_init_9 : decode cJ15_init 9 = .ok (.aload_n 0, 1) := dk_42 (dk_at dksJ15_init_0 9 rfl rfl)
theorem dJ15_init_10 : decode cJ15_init 10 = .ok (.iconst (-1), 1) := dk_2 (dk_at dksJ15_init_0 10 rfl rfl)
theorem dJ15_init_11 : decode cJ15_init 11 = .ok (.putfield 13, 3) := dk_181 0 13 (dk_at dksJ15_init_0 11 rfl rfl)
theorem dJ15_init_14 : decode cJ15_init 14 = .ok (.aload_n 0, 1) := dk_42 (dk_at dksJ15_init_0 14 rfl rfl)
theorem dJ15_init_15 : decode cJ15_init 15 = .ok (.aload_n 0, 1) := dk_42 (dk_at dksJ15_init_0 15 rfl rfl)
theorem dJ15_init_16 : decode cJ15_init 16 = .ok (.getfield 1, 3) := dk_180 0 1 (dk_at dksJ15_init_0 16 rfl rfl)
theorem dJ15_init_19 : decode cJ15_init 19 = .ok (.getfield 17, 3) := dk_180 0 17 (dk_at dksJ15_init_0 19 rfl rfl)
theorem dJ15_init_22 : decode cJ15_init 22 = .ok (.putfield 22, 3) := dk_181 0 22 (dk_at dksJ15_init_1 0 rfl rfl)
theorem dJ15_init_25 : decode cJ15_init 25 = .ok (.return_, 1) := dk_177 (dk_at dksJ15_init_1 3 rfl rfl)
abbrev cJ15_hasNext : ByteArray := prog_37_method_2_code
def yJ15_hasNext : MethodName := ⟨RJ15, "hasNext", "()Z"⟩
def dkwJ15_hasNext_0 : List UInt8 := [42, 180, 0, 25, 42, 180, 0, 1, 180, 0, 28, 159, 0, 7, 4, 167, 0, 4, 3, 172]
abbrev dktJ15_hasNext_0 : List UInt8 := dkwJ15_hasNext_0 ++ []
theorem dksJ15_hasNext_0 : cJ15_hasNext.data.toList.drop 0 = dktJ15_hasNext_0 := by decide +kernel
theorem dJ15_hasNext_0 : decode cJ15_hasNext 0 = .ok (.aload_n 0, 1) := dk_42 (dk_at dksJ15_hasNext_0 0 rfl rfl)
theorem dJ15_hasNext_1 : decode cJ15_hasNext 1 = .ok (.getfield 25, 3) := dk_180 0 25 (dk_at dksJ15_hasNext_0 1 rfl rfl)
theorem dJ15_hasNext_4 : decode cJ15_hasNext 4 = .ok (.aload_n 0, 1) := dk_42 (dk_at dksJ15_hasNext_0 4 rfl rfl)
theorem dJ15_hasNext_5 : decode cJ15_hasNext 5 = .ok (.getfield 1, 3) := dk_180 0 1 (dk_at dksJ15_hasNext_0 5 rfl rfl)
theorem dJ15_hasNext_8 : decode cJ15_hasNext 8 = .ok (.getfield 28, 3) := dk_180 0 28 (dk_at dksJ15_hasNext_0 8 rfl rfl)
theorem dJ15_hasNext_11 : decode cJ15_hasNext 11 = .ok (.if_icmp .eq 7, 3) := dk_159 0 7 (dk_at dksJ15_hasNext_0 11 rfl rfl)
theorem dJ15_hasNext_14 : decode cJ15_hasNext 14 = .ok (.iconst 1, 1) := dk_4 (dk_at dksJ15_hasNext_0 14 rfl rfl)
theorem dJ15_hasNext_15 : decode cJ15_hasNext 15 = .ok (.goto 4, 3) := dk_167 0 4 (dk_at dksJ15_hasNext_0 15 rfl rfl)
theorem dJ15_hasNext_18 : decode cJ15_hasNext 18 = .ok (.iconst 0, 1) := dk_3 (dk_at dksJ15_hasNext_0 18 rfl rfl)
theorem dJ15_hasNext_19 : decode cJ15_hasNext 19 = .ok (.ireturn, 1) := dk_172 (dk_at dksJ15_hasNext_0 19 rfl rfl)
abbrev cJ15_next : ByteArray := prog_37_method_3_code
def yJ15_next : MethodName := ⟨RJ15, "next", "()Ljava/lang/Object;"⟩
def dkwJ15_next_2 : List UInt8 := [183, 0, 43, 191, 42, 27, 4, 96, 181, 0, 25, 44, 42, 27, 90, 181, 0, 13, 50, 176]
abbrev dktJ15_next_2 : List UInt8 := dkwJ15_next_2 ++ []
def dkwJ15_next_1 : List UInt8 := [183, 0, 36, 191, 42, 180, 0, 1, 180, 0, 37, 77, 27, 44, 190, 161, 0, 11, 187, 0, 41, 89]
abbrev dktJ15_next_1 : List UInt8 := dkwJ15_next_1 ++ dktJ15_next_2
def dkwJ15_next_0 : List UInt8 := [42, 182, 0, 31, 42, 180, 0, 25, 60, 27, 42, 180, 0, 1, 180, 0, 28, 161, 0, 11, 187, 0, 34, 89]
abbrev dktJ15_next_0 : List UInt8 := dkwJ15_next_0 ++ dktJ15_next_1
theorem dksJ15_next_0 : cJ15_next.data.toList.drop 0 = dktJ15_next_0 := by decide +kernel
theorem dksJ15_next_1 : cJ15_next.data.toList.drop 24 = dktJ15_next_1 := dk_seg dksJ15_next_0 24 rfl rfl
theorem dksJ15_next_2 : cJ15_next.data.toList.drop 46 = dktJ15_next_2 := dk_seg dksJ15_next_1 22 rfl rfl
theorem dJ15_next_0 : decode cJ15_next 0 = .ok (.aload_n 0, 1) := dk_42 (dk_at dksJ15_next_0 0 rfl rfl)
theorem dJ15_next_1 : decode cJ15_next 1 = .ok (.invokevirtual 31, 3) := dk_182 0 31 (dk_at dksJ15_next_0 1 rfl rfl)
theorem dJ15_next_4 : decode cJ15_next 4 = .ok (.aload_n 0, 1) := dk_42 (dk_at dksJ15_next_0 4 rfl rfl)
theorem dJ15_next_5 : decode cJ15_next 5 = .ok (.getfield 25, 3) := dk_180 0 25 (dk_at dksJ15_next_0 5 rfl rfl)
theorem dJ15_next_8 : decode cJ15_next 8 = .ok (.istore_n 1, 1) := dk_60 (dk_at dksJ15_next_0 8 rfl rfl)
theorem dJ15_next_9 : decode cJ15_next 9 = .ok (.iload_n 1, 1) := dk_27 (dk_at dksJ15_next_0 9 rfl rfl)
theorem dJ15_next_10 : decode cJ15_next 10 = .ok (.aload_n 0, 1) := dk_42 (dk_at dksJ15_next_0 10 rfl rfl)
theorem dJ15_next_11 : decode cJ15_next 11 = .ok (.getfield 1, 3) := dk_180 0 1 (dk_at dksJ15_next_0 11 rfl rfl)
theorem dJ15_next_14 : decode cJ15_next 14 = .ok (.getfield 28, 3) := dk_180 0 28 (dk_at dksJ15_next_0 14 rfl rfl)
theorem dJ15_next_17 : decode cJ15_next 17 = .ok (.if_icmp .lt 11, 3) := dk_161 0 11 (dk_at dksJ15_next_0 17 rfl rfl)
theorem dJ15_next_20 : decode cJ15_next 20 = .ok (.new 34, 3) := dk_187 0 34 (dk_at dksJ15_next_0 20 rfl rfl)
theorem dJ15_next_23 : decode cJ15_next 23 = .ok (.dup, 1) := dk_89 (dk_at dksJ15_next_0 23 rfl rfl)
theorem dJ15_next_24 : decode cJ15_next 24 = .ok (.invokespecial 36, 3) := dk_183 0 36 (dk_at dksJ15_next_1 0 rfl rfl)
theorem dJ15_next_27 : decode cJ15_next 27 = .ok (.athrow, 1) := dk_191 (dk_at dksJ15_next_1 3 rfl rfl)
theorem dJ15_next_28 : decode cJ15_next 28 = .ok (.aload_n 0, 1) := dk_42 (dk_at dksJ15_next_1 4 rfl rfl)
theorem dJ15_next_29 : decode cJ15_next 29 = .ok (.getfield 1, 3) := dk_180 0 1 (dk_at dksJ15_next_1 5 rfl rfl)
theorem dJ15_next_32 : decode cJ15_next 32 = .ok (.getfield 37, 3) := dk_180 0 37 (dk_at dksJ15_next_1 8 rfl rfl)
theorem dJ15_next_35 : decode cJ15_next 35 = .ok (.astore_n 2, 1) := dk_77 (dk_at dksJ15_next_1 11 rfl rfl)
theorem dJ15_next_36 : decode cJ15_next 36 = .ok (.iload_n 1, 1) := dk_27 (dk_at dksJ15_next_1 12 rfl rfl)
theorem dJ15_next_37 : decode cJ15_next 37 = .ok (.aload_n 2, 1) := dk_44 (dk_at dksJ15_next_1 13 rfl rfl)
theorem dJ15_next_38 : decode cJ15_next 38 = .ok (.arraylength, 1) := dk_190 (dk_at dksJ15_next_1 14 rfl rfl)
theorem dJ15_next_39 : decode cJ15_next 39 = .ok (.if_icmp .lt 11, 3) := dk_161 0 11 (dk_at dksJ15_next_1 15 rfl rfl)
theorem dJ15_next_42 : decode cJ15_next 42 = .ok (.new 41, 3) := dk_187 0 41 (dk_at dksJ15_next_1 18 rfl rfl)
theorem dJ15_next_45 : decode cJ15_next 45 = .ok (.dup, 1) := dk_89 (dk_at dksJ15_next_1 21 rfl rfl)
theorem dJ15_next_46 : decode cJ15_next 46 = .ok (.invokespecial 43, 3) := dk_183 0 43 (dk_at dksJ15_next_2 0 rfl rfl)
theorem dJ15_next_49 : decode cJ15_next 49 = .ok (.athrow, 1) := dk_191 (dk_at dksJ15_next_2 3 rfl rfl)
theorem dJ15_next_50 : decode cJ15_next 50 = .ok (.aload_n 0, 1) := dk_42 (dk_at dksJ15_next_2 4 rfl rfl)
theorem dJ15_next_51 : decode cJ15_next 51 = .ok (.iload_n 1, 1) := dk_27 (dk_at dksJ15_next_2 5 rfl rfl)
theorem dJ15_next_52 : decode cJ15_next 52 = .ok (.iconst 1, 1) := dk_4 (dk_at dksJ15_next_2 6 rfl rfl)
theorem dJ15_next_53 : decode cJ15_next 53 = .ok (.iadd, 1) := dk_96 (dk_at dksJ15_next_2 7 rfl rfl)
theorem dJ15_next_54 : decode cJ15_next 54 = .ok (.putfield 25, 3) := dk_181 0 25 (dk_at dksJ15_next_2 8 rfl rfl)
theorem dJ15_next_57 : decode cJ15_next 57 = .ok (.aload_n 2, 1) := dk_44 (dk_at dksJ15_next_2 11 rfl rfl)
theorem dJ15_next_58 : decode cJ15_next 58 = .ok (.aload_n 0, 1) := dk_42 (dk_at dksJ15_next_2 12 rfl rfl)
theorem dJ15_next_59 : decode cJ15_next 59 = .ok (.iload_n 1, 1) := dk_27 (dk_at dksJ15_next_2 13 rfl rfl)
theorem dJ15_next_60 : decode cJ15_next 60 = .ok (.dup_x1, 1) := dk_90 (dk_at dksJ15_next_2 14 rfl rfl)
theorem dJ15_next_61 : decode cJ15_next 61 = .ok (.putfield 13, 3) := dk_181 0 13 (dk_at dksJ15_next_2 15 rfl rfl)
theorem dJ15_next_64 : decode cJ15_next 64 = .ok (.aaload, 1) := dk_50 (dk_at dksJ15_next_2 18 rfl rfl)
theorem dJ15_next_65 : decode cJ15_next 65 = .ok (.areturn, 1) := dk_176 (dk_at dksJ15_next_2 19 rfl rfl)
abbrev cJ15_checkForComodification : ByteArray := prog_37_method_6_code
def yJ15_checkForComodification : MethodName := ⟨RJ15, "checkForComodification", "()V"⟩
def dkwJ15_checkForComodification_0 : List UInt8 := [42, 180, 0, 1, 180, 0, 17, 42, 180, 0, 22, 159, 0, 11, 187, 0, 41, 89, 183, 0, 43, 191, 177]
abbrev dktJ15_checkForComodification_0 : List UInt8 := dkwJ15_checkForComodification_0 ++ []
theorem dksJ15_checkForComodification_0 : cJ15_checkForComodification.data.toList.drop 0 = dktJ15_checkForComodification_0 := by decide +kernel
theorem dJ15_checkForComodification_0 : decode cJ15_checkForComodification 0 = .ok (.aload_n 0, 1) := dk_42 (dk_at dksJ15_checkForComodification_0 0 rfl rfl)
theorem dJ15_checkForComodification_1 : decode cJ15_checkForComodification 1 = .ok (.getfield 1, 3) := dk_180 0 1 (dk_at dksJ15_checkForComodification_0 1 rfl rfl)
theorem dJ15_checkForComodification_4 : decode cJ15_checkForComodification 4 = .ok (.getfield 17, 3) := dk_180 0 17 (dk_at dksJ15_checkForComodification_0 4 rfl rfl)
theorem dJ15_checkForComodification_7 : decode cJ15_checkForComodification 7 = .ok (.aload_n 0, 1) := dk_42 (dk_at dksJ15_checkForComodification_0 7 rfl rfl)
theorem dJ15_checkForComodification_8 : decode cJ15_checkForComodification 8 = .ok (.getfield 22, 3) := dk_180 0 22 (dk_at dksJ15_checkForComodification_0 8 rfl rfl)
theorem dJ15_checkForComodification_11 : decode cJ15_checkForComodification 11 = .ok (.if_icmp .eq 11, 3) := dk_159 0 11 (dk_at dksJ15_checkForComodification_0 11 rfl rfl)
theorem dJ15_checkForComodification_14 : decode cJ15_checkForComodification 14 = .ok (.new 41, 3) := dk_187 0 41 (dk_at dksJ15_checkForComodification_0 14 rfl rfl)
theorem dJ15_checkForComodification_17 : decode cJ15_checkForComodification 17 = .ok (.dup, 1) := dk_89 (dk_at dksJ15_checkForComodification_0 17 rfl rfl)
theorem dJ15_checkForComodification_18 : decode cJ15_checkForComodification 18 = .ok (.invokespecial 43, 3) := dk_183 0 43 (dk_at dksJ15_checkForComodification_0 18 rfl rfl)
theorem dJ15_checkForComodification_21 : decode cJ15_checkForComodification 21 = .ok (.athrow, 1) := dk_191 (dk_at dksJ15_checkForComodification_0 21 rfl rfl)
theorem dJ15_checkForComodification_22 : decode cJ15_checkForComodification 22 = .ok (.return_, 1) := dk_177 (dk_at dksJ15_checkForComodification_0 22 rfl rfl)
theorem q77 : (Jvm.Cond.initialized "java/util/ArrayList$Itr") ∈ lw_all := lw_g (lw_at lw_m1 20 rfl) rfl
theorem q138 : (Jvm.Cond.fieldLink "java/util/ArrayList$Itr" (37 : Nat) "java/util/ArrayList" "elementData" "[Ljava/lang/Object;") ∈ lw_all := lw_g (lw_at lw_m1 81 rfl) rfl
theorem q139 : (Jvm.Cond.fieldLinkNest "java/util/ArrayList$Itr" (28 : Nat) "java/util/ArrayList" "size" "I" "java/util/ArrayList") ∈ lw_tbl := lw_at lw_m1 82 rfl
theorem q142 : (Jvm.Cond.fieldLink "java/util/ArrayList$Itr" (17 : Nat) "java/util/ArrayList" "modCount" "I") ∈ lw_all := lw_g (lw_at lw_m1 85 rfl) rfl
theorem q566 : (Jvm.Cond.instantiable "java/util/ArrayList$Itr" (4 : Nat)) ∈ lw_all := lw_g (lw_at lw_m3 29 rfl) rfl
theorem q568 : (Jvm.Cond.instanceMethod ({ cls := "java/util/ArrayList$Itr", name := "<init>", desc := "(Ljava/util/ArrayList;)V" } : Jvm.MethodName)) ∈ lw_all := lw_g (lw_at lw_m3 31 rfl) rfl
theorem q569 : (Jvm.Cond.code ({ cls := "java/util/ArrayList$Itr", name := "<init>", desc := "(Ljava/util/ArrayList;)V" } : Jvm.MethodName) prog_37_method_1_code (2 : Nat) (Option.none : Option Jvm.ClassFile.FieldType)) ∈ lw_all := lw_g (lw_at lw_m3 32 rfl) rfl
theorem q570 : (Jvm.Cond.methodLink "java/util/ArrayList$Itr" (7 : Nat) ({ cls := "java/lang/Object", name := "<init>", desc := "()V" } : Jvm.MethodName)) ∈ lw_all := lw_g (lw_at lw_m3 33 rfl) rfl
theorem q571 : (Jvm.Cond.fieldLink "java/util/ArrayList$Itr" (25 : Nat) "java/util/ArrayList$Itr" "cursor" "I") ∈ lw_all := lw_g (lw_at lw_m3 34 rfl) rfl
theorem q572 : (Jvm.Cond.fieldLink "java/util/ArrayList$Itr" (13 : Nat) "java/util/ArrayList$Itr" "lastRet" "I") ∈ lw_all := lw_g (lw_at lw_m3 35 rfl) rfl
theorem q573 : (Jvm.Cond.fieldLink "java/util/ArrayList$Itr" (22 : Nat) "java/util/ArrayList$Itr" "expectedModCount" "I") ∈ lw_all := lw_g (lw_at lw_m3 36 rfl) rfl
theorem q574 : (Jvm.Cond.fieldLink "java/util/ArrayList$Itr" (1 : Nat) "java/util/ArrayList$Itr" "this$0" "Ljava/util/ArrayList;") ∈ lw_all := lw_g (lw_at lw_m3 37 rfl) rfl
theorem q575 : (Jvm.Cond.lays "java/util/ArrayList$Itr" "java/util/ArrayList$Itr" "cursor" "I") ∈ lw_all := lw_g (lw_at lw_m3 38 rfl) rfl
theorem q576 : (Jvm.Cond.soleField "java/util/ArrayList$Itr" "cursor") ∈ lw_all := lw_g (lw_at lw_m3 39 rfl) rfl
theorem q577 : (Jvm.Cond.lays "java/util/ArrayList$Itr" "java/util/ArrayList$Itr" "lastRet" "I") ∈ lw_all := lw_g (lw_at lw_m3 40 rfl) rfl
theorem q578 : (Jvm.Cond.soleField "java/util/ArrayList$Itr" "lastRet") ∈ lw_all := lw_g (lw_at lw_m3 41 rfl) rfl
theorem q579 : (Jvm.Cond.lays "java/util/ArrayList$Itr" "java/util/ArrayList$Itr" "expectedModCount" "I") ∈ lw_all := lw_g (lw_at lw_m3 42 rfl) rfl
theorem q580 : (Jvm.Cond.soleField "java/util/ArrayList$Itr" "expectedModCount") ∈ lw_all := lw_g (lw_at lw_m3 43 rfl) rfl
theorem q581 : (Jvm.Cond.laysFinal "java/util/ArrayList$Itr" "java/util/ArrayList$Itr" "this$0" "Ljava/util/ArrayList;") ∈ lw_all := lw_g (lw_at lw_m3 44 rfl) rfl
theorem q582 : (Jvm.Cond.soleField "java/util/ArrayList$Itr" "this$0") ∈ lw_all := lw_g (lw_at lw_m3 45 rfl) rfl
theorem q583 : (Jvm.Cond.superclass "java/util/ArrayList$Itr" "java/lang/Object") ∈ lw_all := lw_g (lw_at lw_m3 46 rfl) rfl
theorem q588 : (Jvm.Cond.castable "java/util/ArrayList$Itr" "java/util/Iterator") ∈ lw_tbl := lw_at lw_m3 51 rfl
theorem q589 : (Jvm.Cond.selects "java/util/ArrayList$Itr" ({ cls := "java/util/Iterator", name := "hasNext", desc := "()Z" } : Jvm.MethodName) ({ cls := "java/util/ArrayList$Itr", name := "hasNext", desc := "()Z" } : Jvm.MethodName)) ∈ lw_all := lw_g (lw_at lw_m3 52 rfl) rfl
theorem q590 : (Jvm.Cond.unhidden "java/util/ArrayList$Itr" "hasNext" "()Z") ∈ lw_tbl := lw_at lw_m3 53 rfl
theorem q591 : (Jvm.Cond.instanceMethod ({ cls := "java/util/ArrayList$Itr", name := "hasNext", desc := "()Z" } : Jvm.MethodName)) ∈ lw_all := lw_g (lw_at lw_m3 54 rfl) rfl
theorem q592 : (Jvm.Cond.publicMethod ({ cls := "java/util/ArrayList$Itr", name := "hasNext", desc := "()Z" } : Jvm.MethodName)) ∈ lw_tbl := lw_at lw_m3 55 rfl
theorem q593 : (Jvm.Cond.code ({ cls := "java/util/ArrayList$Itr", name := "hasNext", desc := "()Z" } : Jvm.MethodName) prog_37_method_2_code (1 : Nat) (Option.some Jvm.ClassFile.FieldType.boolean)) ∈ lw_all := lw_g (lw_at lw_m3 56 rfl) rfl
theorem q598 : (Jvm.Cond.selects "java/util/ArrayList$Itr" ({ cls := "java/util/Iterator", name := "next", desc := "()Ljava/lang/Object;" } : Jvm.MethodName) ({ cls := "java/util/ArrayList$Itr", name := "next", desc := "()Ljava/lang/Object;" } : Jvm.MethodName)) ∈ lw_all := lw_g (lw_at lw_m3 61 rfl) rfl
theorem q599 : (Jvm.Cond.unhidden "java/util/ArrayList$Itr" "next" "()Ljava/lang/Object;") ∈ lw_tbl := lw_at lw_m3 62 rfl
theorem q600 : (Jvm.Cond.instanceMethod ({ cls := "java/util/ArrayList$Itr", name := "next", desc := "()Ljava/lang/Object;" } : Jvm.MethodName)) ∈ lw_all := lw_g (lw_at lw_m3 63 rfl) rfl
theorem q601 : (Jvm.Cond.publicMethod ({ cls := "java/util/ArrayList$Itr", name := "next", desc := "()Ljava/lang/Object;" } : Jvm.MethodName)) ∈ lw_tbl := lw_at lw_m3 64 rfl
theorem q602 : (Jvm.Cond.code ({ cls := "java/util/ArrayList$Itr", name := "next", desc := "()Ljava/lang/Object;" } : Jvm.MethodName) prog_37_method_3_code (3 : Nat) (Option.some (Jvm.ClassFile.FieldType.object "java/lang/Object"))) ∈ lw_all := lw_g (lw_at lw_m3 65 rfl) rfl
theorem q603 : (Jvm.Cond.methodLink "java/util/ArrayList$Itr" (31 : Nat) ({ cls := "java/util/ArrayList$Itr", name := "checkForComodification", desc := "()V" } : Jvm.MethodName)) ∈ lw_all := lw_g (lw_at lw_m3 66 rfl) rfl
theorem q604 : (Jvm.Cond.instanceMethod ({ cls := "java/util/ArrayList$Itr", name := "checkForComodification", desc := "()V" } : Jvm.MethodName)) ∈ lw_all := lw_g (lw_at lw_m3 67 rfl) rfl
theorem q605 : (Jvm.Cond.selects "java/util/ArrayList$Itr" ({ cls := "java/util/ArrayList$Itr", name := "checkForComodification", desc := "()V" } : Jvm.MethodName) ({ cls := "java/util/ArrayList$Itr", name := "checkForComodification", desc := "()V" } : Jvm.MethodName)) ∈ lw_all := lw_g (lw_at lw_m3 68 rfl) rfl
theorem q606 : (Jvm.Cond.code ({ cls := "java/util/ArrayList$Itr", name := "checkForComodification", desc := "()V" } : Jvm.MethodName) prog_37_method_6_code (1 : Nat) (Option.none : Option Jvm.ClassFile.FieldType)) ∈ lw_all := lw_g (lw_at lw_m3 69 rfl) rfl
theorem q607 : (Jvm.Cond.classLink "java/util/ArrayList$Itr" (34 : Nat) "java/util/NoSuchElementException") ∈ lw_all := lw_g (lw_at lw_m3 70 rfl) rfl
theorem q608 : (Jvm.Cond.methodLink "java/util/ArrayList$Itr" (36 : Nat) ({ cls := "java/util/NoSuchElementException", name := "<init>", desc := "()V" } : Jvm.MethodName)) ∈ lw_all := lw_g (lw_at lw_m3 71 rfl) rfl
theorem q908 : (Jvm.Cond.selects "java/util/ArrayList$Itr" ({ cls := "java/lang/Object", name := "getClass", desc := "()Ljava/lang/Class;" } : Jvm.MethodName) ({ cls := "java/lang/Object", name := "getClass", desc := "()Ljava/lang/Class;" } : Jvm.MethodName)) ∈ lw_all := lw_g (lw_at lw_m4 131 rfl) rfl
theorem q1710 : (Jvm.Cond.castable "java/util/ArrayList$Itr" "java/lang/Object") ∈ lw_tbl := lw_at lw_m7 213 rfl
theorem in_J15 : ∀ w ∈ wsJ150, w ∈ lw_all := lw_in wsJ150 [575, 577, 579, 581] (by decide +kernel) (by decide +kernel)
/-! java/lang/Math -/
set_option maxRecDepth 100000
def RJ16 : String := "java/lang/Math"
abbrev cJ16_min : ByteArray := prog_21_method_69_code
def yJ16_min : MethodName := ⟨RJ16, "min", "(II)I"⟩
def dkwJ16_min_0 : List UInt8 := [26, 27, 163, 0, 7, 26, 167, 0, 4, 27, 172]
abbrev dktJ16_min_0 : List UInt8 := dkwJ16_min_0 ++ []
theorem dksJ16_min_0 : cJ16_min.data.toList.drop 0 = dktJ16_min_0 := by decide +kernel
theorem dJ16_min_0 : decode cJ16_min 0 = .ok (.iload_n 0, 1) := dk_26 (dk_at dksJ16_min_0 0 rfl rfl)
theorem dJ16_min_1 : decode cJ16_min 1 = .ok (.iload_n 1, 1) := dk_27 (dk_at dksJ16_min_0 1 rfl rfl)
theorem dJ16_min_2 : decode cJ16_min 2 = .ok (.if_icmp .gt 7, 3) := dk_163 0 7 (dk_at dksJ16_min_0 2 rfl rfl)
theorem dJ16_min_5 : decode cJ16_min 5 = .ok (.iload_n 0, 1) := dk_26 (dk_at dksJ16_min_0 5 rfl rfl)
theorem dJ16_min_6 : decode cJ16_min 6 = .ok (.goto 4, 3) := dk_167 0 4 (dk_at dksJ16_min_0 6 rfl rfl)
theorem dJ16_min_9 : decode cJ16_min 9 = .ok (.iload_n 1, 1) := dk_27 (dk_at dksJ16_min_0 9 rfl rfl)
theorem dJ16_min_10 : decode cJ16_min 10 = .ok (.ireturn, 1) := dk_172 (dk_at dksJ16_min_0 10 rfl rfl)
abbrev cJ16_max : ByteArray := prog_21_method_65_code
def yJ16_max : MethodName := ⟨RJ16, "max", "(II)I"⟩
def dkwJ16_max_0 : List UInt8 := [26, 27, 161, 0, 7, 26, 167, 0, 4, 27, 172]
abbrev dktJ16_max_0 : List UInt8 := dkwJ16_max_0 ++ []
theorem dksJ16_max_0 : cJ16_max.data.toList.drop 0 = dktJ16_max_0 := by decide +kernel
theorem dJ16_max_0 : decode cJ16_max 0 = .ok (.iload_n 0, 1) := dk_26 (dk_at dksJ16_max_0 0 rfl rfl)
theorem dJ16_max_1 : decode cJ16_max 1 = .ok (.iload_n 1, 1) := dk_27 (dk_at dksJ16_max_0 1 rfl rfl)
theorem dJ16_max_2 : decode cJ16_max 2 = .ok (.if_icmp .lt 7, 3) := dk_161 0 7 (dk_at dksJ16_max_0 2 rfl rfl)
theorem dJ16_max_5 : decode cJ16_max 5 = .ok (.iload_n 0, 1) := dk_26 (dk_at dksJ16_max_0 5 rfl rfl)
theorem dJ16_max_6 : decode cJ16_max 6 = .ok (.goto 4, 3) := dk_167 0 4 (dk_at dksJ16_max_0 6 rfl rfl)
theorem dJ16_max_9 : decode cJ16_max 9 = .ok (.iload_n 1, 1) := dk_27 (dk_at dksJ16_max_0 9 rfl rfl)
theorem dJ16_max_10 : decode cJ16_max 10 = .ok (.ireturn, 1) := dk_172 (dk_at dksJ16_max_0 10 rfl rfl)
theorem q78 : (Jvm.Cond.initialized "java/lang/Math") ∈ lw_all := lw_g (lw_at lw_m1 21 rfl) rfl
theorem q646 : (Jvm.Cond.static ({ cls := "java/lang/Math", name := "min", desc := "(II)I" } : Jvm.MethodName)) ∈ lw_all := lw_g (lw_at lw_m3 109 rfl) rfl
theorem q647 : (Jvm.Cond.code ({ cls := "java/lang/Math", name := "min", desc := "(II)I" } : Jvm.MethodName) prog_21_method_69_code (2 : Nat) (Option.some Jvm.ClassFile.FieldType.int)) ∈ lw_all := lw_g (lw_at lw_m3 110 rfl) rfl
theorem q880 : (Jvm.Cond.static ({ cls := "java/lang/Math", name := "max", desc := "(II)I" } : Jvm.MethodName)) ∈ lw_all := lw_g (lw_at lw_m4 103 rfl) rfl
theorem q881 : (Jvm.Cond.code ({ cls := "java/lang/Math", name := "max", desc := "(II)I" } : Jvm.MethodName) prog_21_method_65_code (2 : Nat) (Option.some Jvm.ClassFile.FieldType.int)) ∈ lw_all := lw_g (lw_at lw_m4 104 rfl) rfl
/-! java/util/Objects -/
set_option maxRecDepth 100000
def RJ17 : String := "java/util/Objects"
abbrev cJ17_requireNonNull : ByteArray := prog_47_method_10_code
def yJ17_requireNonNull : MethodName := ⟨RJ17, "requireNonNull", "(Ljava/lang/Object;)Ljava/lang/Object;"⟩
def dkwJ17_requireNonNull_0 : List UInt8 := [42, 199, 0, 11, 187, 0, 84, 89, 183, 0, 86, 191, 42, 176]
abbrev dktJ17_requireNonNull_0 : List UInt8 := dkwJ17_requireNonNull_0 ++ []
theorem dksJ17_requireNonNull_0 : cJ17_requireNonNull.data.toList.drop 0 = dktJ17_requireNonNull_0 := by decide +kernel
theorem dJ17_requireNonNull_0 : decode cJ17_requireNonNull 0 = .ok (.aload_n 0, 1) := dk_42 (dk_at dksJ17_requireNonNull_0 0 rfl rfl)
theorem dJ17_requireNonNull_1 : decode cJ17_requireNonNull 1 = .ok (.ifnonnull 11, 3) := dk_199 0 11 (dk_at dksJ17_requireNonNull_0 1 rfl rfl)
theorem dJ17_requireNonNull_4 : decode cJ17_requireNonNull 4 = .ok (.new 84, 3) := dk_187 0 84 (dk_at dksJ17_requireNonNull_0 4 rfl rfl)
theorem dJ17_requireNonNull_7 : decode cJ17_requireNonNull 7 = .ok (.dup, 1) := dk_89 (dk_at dksJ17_requireNonNull_0 7 rfl rfl)
theorem dJ17_requireNonNull_8 : decode cJ17_requireNonNull 8 = .ok (.invokespecial 86, 3) := dk_183 0 86 (dk_at dksJ17_requireNonNull_0 8 rfl rfl)
theorem dJ17_requireNonNull_11 : decode cJ17_requireNonNull 11 = .ok (.athrow, 1) := dk_191 (dk_at dksJ17_requireNonNull_0 11 rfl rfl)
theorem dJ17_requireNonNull_12 : decode cJ17_requireNonNull 12 = .ok (.aload_n 0, 1) := dk_42 (dk_at dksJ17_requireNonNull_0 12 rfl rfl)
theorem dJ17_requireNonNull_13 : decode cJ17_requireNonNull 13 = .ok (.areturn, 1) := dk_176 (dk_at dksJ17_requireNonNull_0 13 rfl rfl)
abbrev cJ17_checkIndex : ByteArray := prog_47_method_17_code
def yJ17_checkIndex : MethodName := ⟨RJ17, "checkIndex", "(II)I"⟩
def dkwJ17_checkIndex_0 : List UInt8 := [26, 27, 1, 184, 0, 105, 172]
abbrev dktJ17_checkIndex_0 : List UInt8 := dkwJ17_checkIndex_0 ++ []
theorem dksJ17_checkIndex_0 : cJ17_checkIndex.data.toList.drop 0 = dktJ17_checkIndex_0 := by decide +kernel
theorem dJ17_checkIndex_0 : decode cJ17_checkIndex 0 = .ok (.iload_n 0, 1) := dk_26 (dk_at dksJ17_checkIndex_0 0 rfl rfl)
theorem dJ17_checkIndex_1 : decode cJ17_checkIndex 1 = .ok (.iload_n 1, 1) := dk_27 (dk_at dksJ17_checkIndex_0 1 rfl rfl)
theorem dJ17_checkIndex_2 : decode cJ17_checkIndex 2 = .ok (.aconst_null, 1) := dk_1 (dk_at dksJ17_checkIndex_0 2 rfl rfl)
theorem dJ17_checkIndex_3 : decode cJ17_checkIndex 3 = .ok (.invokestatic 105, 3) := dk_184 0 105 (dk_at dksJ17_checkIndex_0 3 rfl rfl)
theorem dJ17_checkIndex_6 : decode cJ17_checkIndex 6 = .ok (.ireturn, 1) := dk_172 (dk_at dksJ17_checkIndex_0 6 rfl rfl)
theorem q79 : (Jvm.Cond.initialized "java/util/Objects") ∈ lw_all := lw_g (lw_at lw_m1 22 rfl) rfl
theorem q649 : (Jvm.Cond.static ({ cls := "java/util/Objects", name := "requireNonNull", desc := "(Ljava/lang/Object;)Ljava/lang/Object;" } : Jvm.MethodName)) ∈ lw_all := lw_g (lw_at lw_m3 112 rfl) rfl
theorem q650 : (Jvm.Cond.code ({ cls := "java/util/Objects", name := "requireNonNull", desc := "(Ljava/lang/Object;)Ljava/lang/Object;" } : Jvm.MethodName) prog_47_method_10_code (1 : Nat) (Option.some (Jvm.ClassFile.FieldType.object "java/lang/Object"))) ∈ lw_all := lw_g (lw_at lw_m3 113 rfl) rfl
theorem q1235 : (Jvm.Cond.static ({ cls := "java/util/Objects", name := "checkIndex", desc := "(II)I" } : Jvm.MethodName)) ∈ lw_all := lw_g (lw_at lw_m5 218 rfl) rfl
theorem q1236 : (Jvm.Cond.code ({ cls := "java/util/Objects", name := "checkIndex", desc := "(II)I" } : Jvm.MethodName) prog_47_method_17_code (2 : Nat) (Option.some Jvm.ClassFile.FieldType.int)) ∈ lw_all := lw_g (lw_at lw_m5 219 rfl) rfl
theorem q1237 : (Jvm.Cond.methodLink "java/util/Objects" (105 : Nat) ({ cls := "jdk/internal/util/Preconditions", name := "checkIndex", desc := "(IILjava/util/function/BiFunction;)I" } : Jvm.MethodName)) ∈ lw_all := lw_g (lw_at lw_m5 220 rfl) rfl
/-! java/lang/Number -/
set_option maxRecDepth 100000
def RJ18 : String := "java/lang/Number"
abbrev cJ18_init : ByteArray := prog_22_method_1_code
def yJ18_init : MethodName := ⟨RJ18, "<init>", "()V"⟩
theorem dJ18_init_0 : decode cJ18_init 0 = .ok (.aload_n 0, 1) := by decide +kernel
theorem dJ18_init_1 : decode cJ18_init 1 = .ok (.invokespecial 1, 3) := by decide +kernel
theorem dJ18_init_4 : decode cJ18_init 4 = .ok (.return_, 1) := by decide +kernel
theorem q80 : (Jvm.Cond.initialized "java/lang/Number") ∈ lw_all := lw_g (lw_at lw_m1 23 rfl) rfl
theorem q998 : (Jvm.Cond.instanceMethod ({ cls := "java/lang/Number", name := "<init>", desc := "()V" } : Jvm.MethodName)) ∈ lw_all := lw_g (lw_at lw_m4 221 rfl) rfl
theorem q999 : (Jvm.Cond.code ({ cls := "java/lang/Number", name := "<init>", desc := "()V" } : Jvm.MethodName) prog_22_method_1_code (1 : Nat) (Option.none : Option Jvm.ClassFile.FieldType)) ∈ lw_all := lw_g (lw_at lw_m4 222 rfl) rfl
theorem q1000 : (Jvm.Cond.methodLink "java/lang/Number" (1 : Nat) ({ cls := "java/lang/Object", name := "<init>", desc := "()V" } : Jvm.MethodName)) ∈ lw_all := lw_g (lw_at lw_m4 223 rfl) rfl
/-! java/lang/Integer -/
set_option maxRecDepth 100000
def RJ19 : String := "java/lang/Integer"
def TJ19 : u_T := fun k => match k with
  | _ => ("java/lang/Integer", "value", "I", true)
def tyJ19 : Nat → FieldType := fun k => match k with
  | _ => .int
abbrev wsJ190 : List Cond := u_ws RJ19 TJ19 1
theorem nmJ19 : ∀ a, a < 1 → ∀ b, b < 1 → a ≠ b → (TJ19 a).2.1 ≠ (TJ19 b).2.1 := by decide +kernel
theorem tyJ19_ok : ∀ k, k < 1 → parseFieldDescriptor (TJ19 k).2.2.1 = some (tyJ19 k) := by decide +kernel
abbrev cJ19_compareTo : ByteArray := prog_18_method_63_code
def yJ19_compareTo : MethodName := ⟨RJ19, "compareTo", "(Ljava/lang/Object;)I"⟩
def dkwJ19_compareTo_0 : List UInt8 := [42, 43, 192, 0, 1, 182, 1, 28, 172]
abbrev dktJ19_compareTo_0 : List UInt8 := dkwJ19_compareTo_0 ++ []
theorem dksJ19_compareTo_0 : cJ19_compareTo.data.toList.drop 0 = dktJ19_compareTo_0 := by decide +kernel
theorem dJ19_compareTo_0 : decode cJ19_compareTo 0 = .ok (.aload_n 0, 1) := dk_42 (dk_at dksJ19_compareTo_0 0 rfl rfl)
theorem dJ19_compareTo_1 : decode cJ19_compareTo 1 = .ok (.aload_n 1, 1) := dk_43 (dk_at dksJ19_compareTo_0 1 rfl rfl)
theorem dJ19_compareTo_2 : decode cJ19_compareTo 2 = .ok (.checkcast 1, 3) := dk_192 0 1 (dk_at dksJ19_compareTo_0 2 rfl rfl)
theorem dJ19_compareTo_5 : decode cJ19_compareTo 5 = .ok (.invokevirtual 284, 3) := dk_182 1 28 (dk_at dksJ19_compareTo_0 5 rfl rfl)
theorem dJ19_compareTo_8 : decode cJ19_compareTo 8 = .ok (.ireturn, 1) := dk_172 (dk_at dksJ19_compareTo_0 8 rfl rfl)
abbrev cJ19_compareTo_2 : ByteArray := prog_18_method_39_code
def yJ19_compareTo_2 : MethodName := ⟨RJ19, "compareTo", "(Ljava/lang/Integer;)I"⟩
def dkwJ19_compareTo_2_0 : List UInt8 := [42, 180, 0, 205, 43, 180, 0, 205, 184, 1, 3, 172]
abbrev dktJ19_compareTo_2_0 : List UInt8 := dkwJ19_compareTo_2_0 ++ []
theorem dksJ19_compareTo_2_0 : cJ19_compareTo_2.data.toList.drop 0 = dktJ19_compareTo_2_0 := by decide +kernel
theorem dJ19_compareTo_2_0 : decode cJ19_compareTo_2 0 = .ok (.aload_n 0, 1) := dk_42 (dk_at dksJ19_compareTo_2_0 0 rfl rfl)
theorem dJ19_compareTo_2_1 : decode cJ19_compareTo_2 1 = .ok (.getfield 205, 3) := dk_180 0 205 (dk_at dksJ19_compareTo_2_0 1 rfl rfl)
theorem dJ19_compareTo_2_4 : decode cJ19_compareTo_2 4 = .ok (.aload_n 1, 1) := dk_43 (dk_at dksJ19_compareTo_2_0 4 rfl rfl)
theorem dJ19_compareTo_2_5 : decode cJ19_compareTo_2 5 = .ok (.getfield 205, 3) := dk_180 0 205 (dk_at dksJ19_compareTo_2_0 5 rfl rfl)
theorem dJ19_compareTo_2_8 : decode cJ19_compareTo_2 8 = .ok (.invokestatic 259, 3) := dk_184 1 3 (dk_at dksJ19_compareTo_2_0 8 rfl rfl)
theorem dJ19_compareTo_2_11 : decode cJ19_compareTo_2 11 = .ok (.ireturn, 1) := dk_172 (dk_at dksJ19_compareTo_2_0 11 rfl rfl)
abbrev cJ19_compare : ByteArray := prog_18_method_40_code
def yJ19_compare : MethodName := ⟨RJ19, "compare", "(II)I"⟩
def dkwJ19_compare_0 : List UInt8 := [26, 27, 162, 0, 7, 2, 167, 0, 13, 26, 27, 160, 0, 7, 3, 167, 0, 4, 4, 172]
abbrev dktJ19_compare_0 : List UInt8 := dkwJ19_compare_0 ++ []
theorem dksJ19_compare_0 : cJ19_compare.data.toList.drop 0 = dktJ19_compare_0 := by decide +kernel
theorem dJ19_compare_0 : decode cJ19_compare 0 = .ok (.iload_n 0, 1) := dk_26 (dk_at dksJ19_compare_0 0 rfl rfl)
theorem dJ19_compare_1 : decode cJ19_compare 1 = .ok (.iload_n 1, 1) := dk_27 (dk_at dksJ19_compare_0 1 rfl rfl)
theorem dJ19_compare_2 : decode cJ19_compare 2 = .ok (.if_icmp .ge 7, 3) := dk_162 0 7 (dk_at dksJ19_compare_0 2 rfl rfl)
theorem dJ19_compare_5 : decode cJ19_compare 5 = .ok (.iconst (-1), 1) := dk_2 (dk_at dksJ19_compare_0 5 rfl rfl)
theorem dJ19_compare_6 : decode cJ19_compare 6 = .ok (.goto 13, 3) := dk_167 0 13 (dk_at dksJ19_compare_0 6 rfl rfl)
theorem dJ19_compare_9 : decode cJ19_compare 9 = .ok (.iload_n 0, 1) := dk_26 (dk_at dksJ19_compare_0 9 rfl rfl)
theorem dJ19_compare_10 : decode cJ19_compare 10 = .ok (.iload_n 1, 1) := dk_27 (dk_at dksJ19_compare_0 10 rfl rfl)
theorem dJ19_compare_11 : decode cJ19_compare 11 = .ok (.if_icmp .ne 7, 3) := dk_160 0 7 (dk_at dksJ19_compare_0 11 rfl rfl)
theorem dJ19_compare_14 : decode cJ19_compare 14 = .ok (.iconst 0, 1) := dk_3 (dk_at dksJ19_compare_0 14 rfl rfl)
theorem dJ19_compare_15 : decode cJ19_compare 15 = .ok (.goto 4, 3) := dk_167 0 4 (dk_at dksJ19_compare_0 15 rfl rfl)
theorem dJ19_compare_18 : decode cJ19_compare 18 = .ok (.iconst 1, 1) := dk_4 (dk_at dksJ19_compare_0 18 rfl rfl)
theorem dJ19_compare_19 : decode cJ19_compare 19 = .ok (.ireturn, 1) := dk_172 (dk_at dksJ19_compare_0 19 rfl rfl)
abbrev cJ19_intValue : ByteArray := prog_18_method_27_code
def yJ19_intValue : MethodName := ⟨RJ19, "intValue", "()I"⟩
theorem dJ19_intValue_0 : decode cJ19_intValue 0 = .ok (.aload_n 0, 1) := by decide +kernel
theorem dJ19_intValue_1 : decode cJ19_intValue 1 = .ok (.getfield 205, 3) := by decide +kernel
theorem dJ19_intValue_4 : decode cJ19_intValue 4 = .ok (.ireturn, 1) := by decide +kernel
abbrev cJ19_valueOf : ByteArray := prog_18_method_22_code
def yJ19_valueOf : MethodName := ⟨RJ19, "valueOf", "(I)Ljava/lang/Integer;"⟩
def dkwJ19_valueOf_1 : List UInt8 := [187, 0, 1, 89, 26, 183, 0, 199, 176]
abbrev dktJ19_valueOf_1 : List UInt8 := dkwJ19_valueOf_1 ++ []
def dkwJ19_valueOf_0 : List UInt8 := [26, 16, 128, 161, 0, 20, 26, 178, 0, 191, 163, 0, 13, 178, 0, 195, 26, 17, 0, 128, 96, 50, 176]
abbrev dktJ19_valueOf_0 : List UInt8 := dkwJ19_valueOf_0 ++ dktJ19_valueOf_1
theorem dksJ19_valueOf_0 : cJ19_valueOf.data.toList.drop 0 = dktJ19_valueOf_0 := by decide +kernel
theorem dksJ19_valueOf_1 : cJ19_valueOf.data.toList.drop 23 = dktJ19_valueOf_1 := dk_seg dksJ19_valueOf_0 23 rfl rfl
theorem dJ19_valueOf_0 : decode cJ19_valueOf 0 = .ok (.iload_n 0, 1) := dk_26 (dk_at dksJ19_valueOf_0 0 rfl rfl)
theorem dJ19_valueOf_1 : decode cJ19_valueOf 1 = .ok (.bipush (-128), 2) := dk_16 128 (dk_at dksJ19_valueOf_0 1 rfl rfl)
theorem dJ19_valueOf_3 : decode cJ19_valueOf 3 = .ok (.if_icmp .lt 20, 3) := dk_161 0 20 (dk_at dksJ19_valueOf_0 3 rfl rfl)
theorem dJ19_valueOf_6 : decode cJ19_valueOf 6 = .ok (.iload_n 0, 1) := dk_26 (dk_at dksJ19_valueOf_0 6 rfl rfl)
theorem dJ19_valueOf_7 : decode cJ19_valueOf 7 = .ok (.getstatic 191, 3) := dk_178 0 191 (dk_at dksJ19_valueOf_0 7 rfl rfl)
theorem dJ19_valueOf_10 : decode cJ19_valueOf 10 = .ok (.if_icmp .gt 13, 3) := dk_163 0 13 (dk_at dksJ19_valueOf_0 10 rfl rfl)
theorem dJ19_valueOf_13 : decode cJ19_valueOf 13 = .ok (.getstatic 195, 3) := dk_178 0 195 (dk_at dksJ19_valueOf_0 13 rfl rfl)
theorem dJ19_valueOf_16 : decode cJ19_valueOf 16 = .ok (.iload_n 0, 1) := dk_26 (dk_at dksJ19_valueOf_0 16 rfl rfl)
theorem dJ19_valueOf_17 : decode cJ19_valueOf 17 = .ok (.sipush 128, 3) := dk_17 0 128 (dk_at dksJ19_valueOf_0 17 rfl rfl)
theorem dJ19_valueOf_20 : decode cJ19_valueOf 20 = .ok (.iadd, 1) := dk_96 (dk_at dksJ19_valueOf_0 20 rfl rfl)
theorem dJ19_valueOf_21 : decode cJ19_valueOf 21 = .ok (.aaload, 1) := dk_50 (dk_at dksJ19_valueOf_0 21 rfl rfl)
theorem dJ19_valueOf_22 : decode cJ19_valueOf 22 = .ok (.areturn, 1) := dk_176 (dk_at dksJ19_valueOf_0 22 rfl rfl)
theorem dJ19_valueOf_23 : decode cJ19_valueOf 23 = .ok (.new 1, 3) := dk_187 0 1 (dk_at dksJ19_valueOf_1 0 rfl rfl)
theorem dJ19_valueOf_26 : decode cJ19_valueOf 26 = .ok (.dup, 1) := dk_89 (dk_at dksJ19_valueOf_1 3 rfl rfl)
theorem dJ19_valueOf_27 : decode cJ19_valueOf 27 = .ok (.iload_n 0, 1) := dk_26 (dk_at dksJ19_valueOf_1 4 rfl rfl)
theorem dJ19_valueOf_28 : decode cJ19_valueOf 28 = .ok (.invokespecial 199, 3) := dk_183 0 199 (dk_at dksJ19_valueOf_1 5 rfl rfl)
theorem dJ19_valueOf_31 : decode cJ19_valueOf 31 = .ok (.areturn, 1) := dk_176 (dk_at dksJ19_valueOf_1 8 rfl rfl)
abbrev cJ19_init : ByteArray := prog_18_method_23_code
def yJ19_init : MethodName := ⟨RJ19, "<init>", "(I)V"⟩
def dkwJ19_init_0 : List UInt8 := [42, 183, 0, 202, 42, 27, 181, 0, 205, 177]
abbrev dktJ19_init_0 : List UInt8 := dkwJ19_init_0 ++ []
theorem dksJ19_init_0 : cJ19_init.data.toList.drop 0 = dktJ19_init_0 := by decide +kernel
theorem dJ19_init_0 : decode cJ19_init 0 = .ok (.aload_n 0, 1) := dk_42 (dk_at dksJ19_init_0 0 rfl rfl)
theorem dJ19_init_1 : decode cJ19_init 1 = .ok (.invokespecial 202, 3) := dk_183 0 202 (dk_at dksJ19_init_0 1 rfl rfl)
theorem dJ19_init_4 : decode cJ19_init 4 = .ok (.aload_n 0, 1) := dk_42 (dk_at dksJ19_init_0 4 rfl rfl)
theorem dJ19_init_5 : decode cJ19_init 5 = .ok (.iload_n 1, 1) := dk_27 (dk_at dksJ19_init_0 5 rfl rfl)
theorem dJ19_init_6 : decode cJ19_init 6 = .ok (.putfield 205, 3) := dk_181 0 205 (dk_at dksJ19_init_0 6 rfl rfl)
theorem dJ19_init_9 : decode cJ19_init 9 = .ok (.return_, 1) := dk_177 (dk_at dksJ19_init_0 9 rfl rfl)
theorem q81 : (Jvm.Cond.initialized "java/lang/Integer") ∈ lw_all := lw_g (lw_at lw_m1 24 rfl) rfl
theorem q678 : (Jvm.Cond.castable "java/lang/Integer" "java/lang/Comparable") ∈ lw_tbl := lw_at lw_m3 141 rfl
theorem q679 : (Jvm.Cond.selects "java/lang/Integer" ({ cls := "java/lang/Comparable", name := "compareTo", desc := "(Ljava/lang/Object;)I" } : Jvm.MethodName) ({ cls := "java/lang/Integer", name := "compareTo", desc := "(Ljava/lang/Object;)I" } : Jvm.MethodName)) ∈ lw_all := lw_g (lw_at lw_m3 142 rfl) rfl
theorem q680 : (Jvm.Cond.unhidden "java/lang/Integer" "compareTo" "(Ljava/lang/Object;)I") ∈ lw_tbl := lw_at lw_m3 143 rfl
theorem q681 : (Jvm.Cond.instanceMethod ({ cls := "java/lang/Integer", name := "compareTo", desc := "(Ljava/lang/Object;)I" } : Jvm.MethodName)) ∈ lw_all := lw_g (lw_at lw_m3 144 rfl) rfl
theorem q682 : (Jvm.Cond.publicMethod ({ cls := "java/lang/Integer", name := "compareTo", desc := "(Ljava/lang/Object;)I" } : Jvm.MethodName)) ∈ lw_tbl := lw_at lw_m3 145 rfl
theorem q683 : (Jvm.Cond.code ({ cls := "java/lang/Integer", name := "compareTo", desc := "(Ljava/lang/Object;)I" } : Jvm.MethodName) prog_18_method_63_code (2 : Nat) (Option.some Jvm.ClassFile.FieldType.int)) ∈ lw_all := lw_g (lw_at lw_m3 146 rfl) rfl
theorem q684 : (Jvm.Cond.classLink "java/lang/Integer" (1 : Nat) "java/lang/Integer") ∈ lw_all := lw_g (lw_at lw_m3 147 rfl) rfl
theorem q685 : (Jvm.Cond.methodLink "java/lang/Integer" (284 : Nat) ({ cls := "java/lang/Integer", name := "compareTo", desc := "(Ljava/lang/Integer;)I" } : Jvm.MethodName)) ∈ lw_all := lw_g (lw_at lw_m3 148 rfl) rfl
theorem q686 : (Jvm.Cond.instanceMethod ({ cls := "java/lang/Integer", name := "compareTo", desc := "(Ljava/lang/Integer;)I" } : Jvm.MethodName)) ∈ lw_all := lw_g (lw_at lw_m3 149 rfl) rfl
theorem q687 : (Jvm.Cond.selects "java/lang/Integer" ({ cls := "java/lang/Integer", name := "compareTo", desc := "(Ljava/lang/Integer;)I" } : Jvm.MethodName) ({ cls := "java/lang/Integer", name := "compareTo", desc := "(Ljava/lang/Integer;)I" } : Jvm.MethodName)) ∈ lw_all := lw_g (lw_at lw_m3 150 rfl) rfl
theorem q688 : (Jvm.Cond.code ({ cls := "java/lang/Integer", name := "compareTo", desc := "(Ljava/lang/Integer;)I" } : Jvm.MethodName) prog_18_method_39_code (2 : Nat) (Option.some Jvm.ClassFile.FieldType.int)) ∈ lw_all := lw_g (lw_at lw_m3 151 rfl) rfl
theorem q689 : (Jvm.Cond.methodLink "java/lang/Integer" (259 : Nat) ({ cls := "java/lang/Integer", name := "compare", desc := "(II)I" } : Jvm.MethodName)) ∈ lw_all := lw_g (lw_at lw_m3 152 rfl) rfl
theorem q690 : (Jvm.Cond.static ({ cls := "java/lang/Integer", name := "compare", desc := "(II)I" } : Jvm.MethodName)) ∈ lw_all := lw_g (lw_at lw_m3 153 rfl) rfl
theorem q691 : (Jvm.Cond.code ({ cls := "java/lang/Integer", name := "compare", desc := "(II)I" } : Jvm.MethodName) prog_18_method_40_code (2 : Nat) (Option.some Jvm.ClassFile.FieldType.int)) ∈ lw_all := lw_g (lw_at lw_m3 154 rfl) rfl
theorem q904 : (Jvm.Cond.selects "java/lang/Integer" ({ cls := "java/lang/Object", name := "getClass", desc := "()Ljava/lang/Class;" } : Jvm.MethodName) ({ cls := "java/lang/Object", name := "getClass", desc := "()Ljava/lang/Class;" } : Jvm.MethodName)) ∈ lw_all := lw_g (lw_at lw_m4 127 rfl) rfl
theorem q983 : (Jvm.Cond.instanceMethod ({ cls := "java/lang/Integer", name := "intValue", desc := "()I" } : Jvm.MethodName)) ∈ lw_all := lw_g (lw_at lw_m4 206 rfl) rfl
theorem q984 : (Jvm.Cond.selects "java/lang/Integer" ({ cls := "java/lang/Integer", name := "intValue", desc := "()I" } : Jvm.MethodName) ({ cls := "java/lang/Integer", name := "intValue", desc := "()I" } : Jvm.MethodName)) ∈ lw_all := lw_g (lw_at lw_m4 207 rfl) rfl
theorem q985 : (Jvm.Cond.code ({ cls := "java/lang/Integer", name := "intValue", desc := "()I" } : Jvm.MethodName) prog_18_method_27_code (1 : Nat) (Option.some Jvm.ClassFile.FieldType.int)) ∈ lw_all := lw_g (lw_at lw_m4 208 rfl) rfl
theorem q987 : (Jvm.Cond.static ({ cls := "java/lang/Integer", name := "valueOf", desc := "(I)Ljava/lang/Integer;" } : Jvm.MethodName)) ∈ lw_all := lw_g (lw_at lw_m4 210 rfl) rfl
theorem q988 : (Jvm.Cond.code ({ cls := "java/lang/Integer", name := "valueOf", desc := "(I)Ljava/lang/Integer;" } : Jvm.MethodName) prog_18_method_22_code (1 : Nat) (Option.some (Jvm.ClassFile.FieldType.object "java/lang/Integer"))) ∈ lw_all := lw_g (lw_at lw_m4 211 rfl) rfl
theorem q989 : (Jvm.Cond.fieldLink "java/lang/Integer" (191 : Nat) "java/lang/Integer$IntegerCache" "high" "I") ∈ lw_all := lw_g (lw_at lw_m4 212 rfl) rfl
theorem q991 : (Jvm.Cond.fieldLink "java/lang/Integer" (195 : Nat) "java/lang/Integer$IntegerCache" "cache" "[Ljava/lang/Integer;") ∈ lw_all := lw_g (lw_at lw_m4 214 rfl) rfl
theorem q993 : (Jvm.Cond.instantiable "java/lang/Integer" (1 : Nat)) ∈ lw_all := lw_g (lw_at lw_m4 216 rfl) rfl
theorem q994 : (Jvm.Cond.methodLink "java/lang/Integer" (199 : Nat) ({ cls := "java/lang/Integer", name := "<init>", desc := "(I)V" } : Jvm.MethodName)) ∈ lw_all := lw_g (lw_at lw_m4 217 rfl) rfl
theorem q995 : (Jvm.Cond.instanceMethod ({ cls := "java/lang/Integer", name := "<init>", desc := "(I)V" } : Jvm.MethodName)) ∈ lw_all := lw_g (lw_at lw_m4 218 rfl) rfl
theorem q996 : (Jvm.Cond.code ({ cls := "java/lang/Integer", name := "<init>", desc := "(I)V" } : Jvm.MethodName) prog_18_method_23_code (2 : Nat) (Option.none : Option Jvm.ClassFile.FieldType)) ∈ lw_all := lw_g (lw_at lw_m4 219 rfl) rfl
theorem q997 : (Jvm.Cond.methodLink "java/lang/Integer" (202 : Nat) ({ cls := "java/lang/Number", name := "<init>", desc := "()V" } : Jvm.MethodName)) ∈ lw_all := lw_g (lw_at lw_m4 220 rfl) rfl
theorem q1001 : (Jvm.Cond.fieldLink "java/lang/Integer" (205 : Nat) "java/lang/Integer" "value" "I") ∈ lw_all := lw_g (lw_at lw_m4 224 rfl) rfl
theorem q1002 : (Jvm.Cond.laysFinal "java/lang/Integer" "java/lang/Integer" "value" "I") ∈ lw_all := lw_g (lw_at lw_m4 225 rfl) rfl
theorem q1003 : (Jvm.Cond.soleField "java/lang/Integer" "value") ∈ lw_all := lw_g (lw_at lw_m4 226 rfl) rfl
theorem q1004 : (Jvm.Cond.superclass "java/lang/Integer" "java/lang/Number") ∈ lw_all := lw_g (lw_at lw_m4 227 rfl) rfl
theorem q1714 : (Jvm.Cond.castable "java/lang/Integer" "java/lang/Object") ∈ lw_tbl := lw_at lw_m7 217 rfl
theorem in_J19 : ∀ w ∈ wsJ190, w ∈ lw_all := lw_in wsJ190 [1002] (by decide +kernel) (by decide +kernel)
/-! java/util/AbstractQueue -/
set_option maxRecDepth 100000
def RJ20 : String := "java/util/AbstractQueue"
abbrev cJ20_init : ByteArray := prog_34_method_1_code
def yJ20_init : MethodName := ⟨RJ20, "<init>", "()V"⟩
theorem dJ20_init_0 : decode cJ20_init 0 = .ok (.aload_n 0, 1) := by decide +kernel
theorem dJ20_init_1 : decode cJ20_init 1 = .ok (.invokespecial 1, 3) := by decide +kernel
theorem dJ20_init_4 : decode cJ20_init 4 = .ok (.return_, 1) := by decide +kernel
theorem q82 : (Jvm.Cond.initialized "java/util/AbstractQueue") ∈ lw_all := lw_g (lw_at lw_m1 25 rfl) rfl
theorem q819 : (Jvm.Cond.instanceMethod ({ cls := "java/util/AbstractQueue", name := "<init>", desc := "()V" } : Jvm.MethodName)) ∈ lw_all := lw_g (lw_at lw_m4 42 rfl) rfl
theorem q820 : (Jvm.Cond.code ({ cls := "java/util/AbstractQueue", name := "<init>", desc := "()V" } : Jvm.MethodName) prog_34_method_1_code (1 : Nat) (Option.none : Option Jvm.ClassFile.FieldType)) ∈ lw_all := lw_g (lw_at lw_m4 43 rfl) rfl
theorem q821 : (Jvm.Cond.methodLink "java/util/AbstractQueue" (1 : Nat) ({ cls := "java/util/AbstractCollection", name := "<init>", desc := "()V" } : Jvm.MethodName)) ∈ lw_all := lw_g (lw_at lw_m4 44 rfl) rfl
/-! java/util/PriorityQueue -/
set_option maxRecDepth 100000
def RJ21 : String := "java/util/PriorityQueue"
def TJ21 : u_T := fun k => match k with
  | 0 => ("java/util/PriorityQueue", "queue", "[Ljava/lang/Object;", false)
  | 1 => ("java/util/PriorityQueue", "size", "I", false)
  | 2 => ("java/util/PriorityQueue", "comparator", "Ljava/util/Comparator;", true)
  | _ => ("java/util/PriorityQueue", "modCount", "I", false)
def tyJ21 : Nat → FieldType := fun k => match k with
  | 0 => .array (.object "java/lang/Object")
  | 1 => .int
  | 2 => .object "java/util/Comparator"
  | _ => .int
abbrev wsJ210 : List Cond := u_ws RJ21 TJ21 4
theorem nmJ21 : ∀ a, a < 4 → ∀ b, b < 4 → a ≠ b → (TJ21 a).2.1 ≠ (TJ21 b).2.1 := by decide +kernel
theorem tyJ21_ok : ∀ k, k < 4 → parseFieldDescriptor (TJ21 k).2.2.1 = some (tyJ21 k) := by decide +kernel
abbrev cJ21_init : ByteArray := prog_48_method_3_code
def yJ21_init : MethodName := ⟨RJ21, "<init>", "(Ljava/util/Comparator;)V"⟩
def dkwJ21_init_0 : List UInt8 := [42, 16, 11, 43, 183, 0, 3, 177]
abbrev dktJ21_init_0 : List UInt8 := dkwJ21_init_0 ++ []
theorem dksJ21_init_0 : cJ21_init.data.toList.drop 0 = dktJ21_init_0 := by decide +kernel
theorem dJ21_init_0 : decode cJ21_init 0 = .ok (.aload_n 0, 1) := dk_42 (dk_at dksJ21_init_0 0 rfl rfl)
theorem dJ21_init_1 : decode cJ21_init 1 = .ok (.bipush 11, 2) := dk_16 11 (dk_at dksJ21_init_0 1 rfl rfl)
theorem dJ21_init_3 : decode cJ21_init 3 = .ok (.aload_n 1, 1) := dk_43 (dk_at dksJ21_init_0 3 rfl rfl)
theorem dJ21_init_4 : decode cJ21_init 4 = .ok (.invokespecial 3, 3) := dk_183 0 3 (dk_at dksJ21_init_0 4 rfl rfl)
theorem dJ21_init_7 : decode cJ21_init 7 = .ok (.return_, 1) := dk_177 (dk_at dksJ21_init_0 7 rfl rfl)
abbrev cJ21_init_2 : ByteArray := prog_48_method_4_code
def yJ21_init_2 : MethodName := ⟨RJ21, "<init>", "(ILjava/util/Comparator;)V"⟩
def dkwJ21_init_2_1 : List UInt8 := [181, 0, 17, 42, 44, 181, 0, 21, 177]
abbrev dktJ21_init_2_1 : List UInt8 := dkwJ21_init_2_1 ++ []
def dkwJ21_init_2_0 : List UInt8 := [42, 183, 0, 7, 27, 4, 162, 0, 11, 187, 0, 12, 89, 183, 0, 14, 191, 42, 27, 189, 0, 15]
abbrev dktJ21_init_2_0 : List UInt8 := dkwJ21_init_2_0 ++ dktJ21_init_2_1
theorem dksJ21_init_2_0 : cJ21_init_2.data.toList.drop 0 = dktJ21_init_2_0 := by decide +kernel
theorem dksJ21_init_2_1 : cJ21_init_2.data.toList.drop 22 = dktJ21_init_2_1 := dk_seg dksJ21_init_2_0 22 rfl rfl
theorem dJ21_init_2_0 : decode cJ21_init_2 0 = .ok (.aload_n 0, 1) := dk_42 (dk_at dksJ21_init_2_0 0 rfl rfl)
theorem dJ21_init_2_1 : decode cJ21_init_2 1 = .ok (.invokespecial 7, 3) := dk_183 0 7 (dk_at dksJ21_init_2_0 1 rfl rfl)
theorem dJ21_init_2_4 : decode cJ21_init_2 4 = .ok (.iload_n 1, 1) := dk_27 (dk_at dksJ21_init_2_0 4 rfl rfl)
theorem dJ21_init_2_5 : decode cJ21_init_2 5 = .ok (.iconst 1, 1) := dk_4 (dk_at dksJ21_init_2_0 5 rfl rfl)
theorem dJ21_init_2_6 : decode cJ21_init_2 6 = .ok (.if_icmp .ge 11, 3) := dk_162 0 11 (dk_at dksJ21_init_2_0 6 rfl rfl)
theorem dJ21_init_2_9 : decode cJ21_init_2 9 = .ok (.new 12, 3) := dk_187 0 12 (dk_at dksJ21_init_2_0 9 rfl rfl)
theorem dJ21_init_2_12 : decode cJ21_init_2 12 = .ok (.dup, 1) := dk_89 (dk_at dksJ21_init_2_0 12 rfl rfl)
theorem dJ21_init_2_13 : decode cJ21_init_2 13 = .ok (.invokespecial 14, 3) := dk_183 0 14 (dk_at dksJ21_init_2_0 13 rfl rfl)
theorem dJ21_init_2_16 : decode cJ21_init_2 16 = .ok (.athrow, 1) := dk_191 (dk_at dksJ21_init_2_0 16 rfl rfl)
theorem dJ21_init_2_17 : decode cJ21_init_2 17 = .ok (.aload_n 0, 1) := dk_42 (dk_at dksJ21_init_2_0 17 rfl rfl)
theorem dJ21_init_2_18 : decode cJ21_init_2 18 = .ok (.iload_n 1, 1) := dk_27 (dk_at dksJ21_init_2_0 18 rfl rfl)
theorem dJ21_init_2_19 : decode cJ21_init_2 19 = .ok (.anewarray 15, 3) := dk_189 0 15 (dk_at dksJ21_init_2_0 19 rfl rfl)
theorem dJ21_init_2_22 : decode cJ21_init_2 22 = .ok (.putfield 17, 3) := dk_181 0 17 (dk_at dksJ21_init_2_1 0 rfl rfl)
theorem dJ21_init_2_25 : decode cJ21_init_2 25 = .ok (.aload_n 0, 1) := dk_42 (dk_at dksJ21_init_2_1 3 rfl rfl)
theorem dJ21_init_2_26 : decode cJ21_init_2 26 = .ok (.aload_n 2, 1) := dk_44 (dk_at dksJ21_init_2_1 4 rfl rfl)
theorem dJ21_init_2_27 : decode cJ21_init_2 27 = .ok (.putfield 21, 3) := dk_181 0 21 (dk_at dksJ21_init_2_1 5 rfl rfl)
theorem dJ21_init_2_30 : decode cJ21_init_2 30 = .ok (.return_, 1) := dk_177 (dk_at dksJ21_init_2_1 8 rfl rfl)
abbrev cJ21_add : ByteArray := prog_48_method_13_code
def yJ21_add : MethodName := ⟨RJ21, "add", "(Ljava/lang/Object;)Z"⟩
def dkwJ21_add_0 : List UInt8 := [42, 43, 182, 0, 89, 172]
abbrev dktJ21_add_0 : List UInt8 := dkwJ21_add_0 ++ []
theorem dksJ21_add_0 : cJ21_add.data.toList.drop 0 = dktJ21_add_0 := by decide +kernel
theorem dJ21_add_0 : decode cJ21_add 0 = .ok (.aload_n 0, 1) := dk_42 (dk_at dksJ21_add_0 0 rfl rfl)
theorem dJ21_add_1 : decode cJ21_add 1 = .ok (.aload_n 1, 1) := dk_43 (dk_at dksJ21_add_0 1 rfl rfl)
theorem dJ21_add_2 : decode cJ21_add 2 = .ok (.invokevirtual 89, 3) := dk_182 0 89 (dk_at dksJ21_add_0 2 rfl rfl)
theorem dJ21_add_5 : decode cJ21_add 5 = .ok (.ireturn, 1) := dk_172 (dk_at dksJ21_add_0 5 rfl rfl)
abbrev cJ21_offer : ByteArray := prog_48_method_14_code
def yJ21_offer : MethodName := ⟨RJ21, "offer", "(Ljava/lang/Object;)Z"⟩
def dkwJ21_offer_2 : List UInt8 := [182, 0, 100, 42, 28, 4, 96, 181, 0, 58, 4, 172]
abbrev dktJ21_offer_2 : List UInt8 := dkwJ21_offer_2 ++ []
def dkwJ21_offer_1 : List UInt8 := [180, 0, 58, 61, 28, 42, 180, 0, 17, 190, 161, 0, 10, 42, 28, 4, 96, 182, 0, 96, 42, 28, 43]
abbrev dktJ21_offer_1 : List UInt8 := dkwJ21_offer_1 ++ dktJ21_offer_2
def dkwJ21_offer_0 : List UInt8 := [43, 199, 0, 11, 187, 0, 74, 89, 183, 0, 76, 191, 42, 89, 180, 0, 93, 4, 96, 181, 0, 93, 42]
abbrev dktJ21_offer_0 : List UInt8 := dkwJ21_offer_0 ++ dktJ21_offer_1
theorem dksJ21_offer_0 : cJ21_offer.data.toList.drop 0 = dktJ21_offer_0 := by decide +kernel
theorem dksJ21_offer_1 : cJ21_offer.data.toList.drop 23 = dktJ21_offer_1 := dk_seg dksJ21_offer_0 23 rfl rfl
theorem dksJ21_offer_2 : cJ21_offer.data.toList.drop 46 = dktJ21_offer_2 := dk_seg dksJ21_offer_1 23 rfl rfl
theorem dJ21_offer_0 : decode cJ21_offer 0 = .ok (.aload_n 1, 1) := dk_43 (dk_at dksJ21_offer_0 0 rfl rfl)
theorem dJ21_offer_1 : decode cJ21_offer 1 = .ok (.ifnonnull 11, 3) := dk_199 0 11 (dk_at dksJ21_offer_0 1 rfl rfl)
theorem dJ21_offer_4 : decode cJ21_offer 4 = .ok (.new 74, 3) := dk_187 0 74 (dk_at dksJ21_offer_0 4 rfl rfl)
theorem dJ21_offer_7 : decode cJ21_offer 7 = .ok (.dup, 1) := dk_89 (dk_at dksJ21_offer_0 7 rfl rfl)
theorem dJ21_offer_8 : decode cJ21_offer 8 = .ok (.invokespecial 76, 3) := dk_183 0 76 (dk_at dksJ21_offer_0 8 rfl rfl)
theorem dJ21_offer_11 : decode cJ21_offer 11 = .ok (.athrow, 1) := dk_191 (dk_at dksJ21_offer_0 11 rfl rfl)
theorem dJ21_offer_12 : decode cJ21_offer 12 = .ok (.aload_n 0, 1) := dk_42 (dk_at dksJ21_offer_0 12 rfl rfl)
theorem dJ21_offer_13 : decode cJ21_offer 13 = .ok (.dup, 1) := dk_89 (dk_at dksJ21_offer_0 13 rfl rfl)
theorem dJ21_offer_14 : decode cJ21_offer 14 = .ok (.getfield 93, 3) := dk_180 0 93 (dk_at dksJ21_offer_0 14 rfl rfl)
theorem dJ21_offer_17 : decode cJ21_offer 17 = .ok (.iconst 1, 1) := dk_4 (dk_at dksJ21_offer_0 17 rfl rfl)
theorem dJ21_offer_18 : decode cJ21_offer 18 = .ok (.iadd, 1) := dk_96 (dk_at dksJ21_offer_0 18 rfl rfl)
theorem dJ21_offer_19 : decode cJ21_offer 19 = .ok (.putfield 93, 3) := dk_181 0 93 (dk_at dksJ21_offer_0 19 rfl rfl)
theorem dJ21_offer_22 : decode cJ21_offer 22 = .ok (.aload_n 0, 1) := dk_42 (dk_at dksJ21_offer_0 22 rfl rfl)
theorem dJ21_offer_23 : decode cJ21_offer 23 = .ok (.getfield 58, 3) := dk_180 0 58 (dk_at dksJ21_offer_1 0 rfl rfl)
theorem dJ21_offer_26 : decode cJ21_offer 26 = .ok (.istore_n 2, 1) := dk_61 (dk_at dksJ21_offer_1 3 rfl rfl)
theorem dJ21_offer_27 : decode cJ21_offer 27 = .ok (.iload_n 2, 1) := dk_28 (dk_at dksJ21_offer_1 4 rfl rfl)
theorem dJ21_offer_28 : decode cJ21_offer 28 = .ok (.aload_n 0, 1) := dk_42 (dk_at dksJ21_offer_1 5 rfl rfl)
theorem dJ21_offer_29 : decode cJ21_offer 29 = .ok (.getfield 17, 3) := dk_180 0 17 (dk_at dksJ21_offer_1 6 rfl rfl)
theorem dJ21_offer_32 : decode cJ21_offer 32 = .ok (.arraylength, 1) := dk_190 (dk_at dksJ21_offer_1 9 rfl rfl)
theorem dJ21_offer_33 : decode cJ21_offer 33 = .ok (.if_icmp .lt 10, 3) := dk_161 0 10 (dk_at dksJ21_offer_1 10 rfl rfl)
theorem dJ21_offer_36 : decode cJ21_offer 36 = .ok (.aload_n 0, 1) := dk_42 (dk_at dksJ21_offer_1 13 rfl rfl)
theorem dJ21_offer_37 : decode cJ21_offer 37 = .ok (.iload_n 2, 1) := dk_28 (dk_at dksJ21_offer_1 14 rfl rfl)
theorem dJ21_offer_38 : decode cJ21_offer 38 = .ok (.iconst 1, 1) := dk_4 (dk_at dksJ21_offer_1 15 rfl rfl)
theorem dJ21_offer_39 : decode cJ21_offer 39 = .ok (.iadd, 1) := dk_96 (dk_at dksJ21_offer_1 16 rfl rfl)
theorem dJ21_offer_40 : decode cJ21_offer 40 = .ok (.invokevirtual 96, 3) := dk_182 0 96 (dk_at dksJ21_offer_1 17 rfl rfl)
theorem dJ21_offer_43 : decode cJ21_offer 43 = .ok (.aload_n 0, 1) := dk_42 (dk_at dksJ21_offer_1 20 rfl rfl)
theorem dJ21_offer_44 : decode cJ21_offer 44 = .ok (.iload_n 2, 1) := dk_28 (dk_at dksJ21_offer_1 21 rfl rfl)
theorem dJ21_offer_45 : decode cJ21_offer 45 = .ok (.aload_n 1, 1) := dk_43 (dk_at dksJ21_offer_1 22 rfl rfl)
theorem dJ21_offer_46 : decode cJ21_offer 46 = .ok (.invokevirtual 100, 3) := dk_182 0 100 (dk_at dksJ21_offer_2 0 rfl rfl)
theorem dJ21_offer_49 : decode cJ21_offer 49 = .ok (.aload_n 0, 1) := dk_42 (dk_at dksJ21_offer_2 3 rfl rfl)
theorem dJ21_offer_50 : decode cJ21_offer 50 = .ok (.iload_n 2, 1) := dk_28 (dk_at dksJ21_offer_2 4 rfl rfl)
theorem dJ21_offer_51 : decode cJ21_offer 51 = .ok (.iconst 1, 1) := dk_4 (dk_at dksJ21_offer_2 5 rfl rfl)
theorem dJ21_offer_52 : decode cJ21_offer 52 = .ok (.iadd, 1) := dk_96 (dk_at dksJ21_offer_2 6 rfl rfl)
theorem dJ21_offer_53 : decode cJ21_offer 53 = .ok (.putfield 58, 3) := dk_181 0 58 (dk_at dksJ21_offer_2 7 rfl rfl)
theorem dJ21_offer_56 : decode cJ21_offer 56 = .ok (.iconst 1, 1) := dk_4 (dk_at dksJ21_offer_2 10 rfl rfl)
theorem dJ21_offer_57 : decode cJ21_offer 57 = .ok (.ireturn, 1) := dk_172 (dk_at dksJ21_offer_2 11 rfl rfl)
abbrev cJ21_grow : ByteArray := prog_48_method_12_code
def yJ21_grow : MethodName := ⟨RJ21, "grow", "(I)V"⟩
def dkwJ21_grow_1 : List UInt8 := [122, 184, 0, 80, 62, 42, 42, 180, 0, 17, 29, 184, 0, 86, 181, 0, 17, 177]
abbrev dktJ21_grow_1 : List UInt8 := dkwJ21_grow_1 ++ []
def dkwJ21_grow_0 : List UInt8 := [42, 180, 0, 17, 190, 61, 28, 27, 28, 100, 28, 16, 64, 162, 0, 9, 28, 5, 96, 167, 0, 6, 28, 4]
abbrev dktJ21_grow_0 : List UInt8 := dkwJ21_grow_0 ++ dktJ21_grow_1
theorem dksJ21_grow_0 : cJ21_grow.data.toList.drop 0 = dktJ21_grow_0 := by decide +kernel
theorem dksJ21_grow_1 : cJ21_grow.data.toList.drop 24 = dktJ21_grow_1 := dk_seg dksJ21_grow_0 24 rfl rfl
theorem dJ21_grow_0 : decode cJ21_grow 0 = .ok (.aload_n 0, 1) := dk_42 (dk_at dksJ21_grow_0 0 rfl rfl)
theorem dJ21_grow_1 : decode cJ21_grow 1 = .ok (.getfield 17, 3) := dk_180 0 17 (dk_at dksJ21_grow_0 1 rfl rfl)
theorem dJ21_grow_4 : decode cJ21_grow 4 = .ok (.arraylength, 1) := dk_190 (dk_at dksJ21_grow_0 4 rfl rfl)
theorem dJ21_grow_5 : decode cJ21_grow 5 = .ok (.istore_n 2, 1) := dk_61 (dk_at dksJ21_grow_0 5 rfl rfl)
theorem dJ21_grow_6 : decode cJ21_grow 6 = .ok (.iload_n 2, 1) := dk_28 (dk_at dksJ21_grow_0 6 rfl rfl)
theorem dJ21_grow_7 : decode cJ21_grow 7 = .ok (.iload_n 1, 1) := dk_27 (dk_at dksJ21_grow_0 7 rfl rfl)
theorem dJ21_grow_8 : decode cJ21_grow 8 = .ok (.iload_n 2, 1) := dk_28 (dk_at dksJ21_grow_0 8 rfl rfl)
theorem dJ21_grow_9 : decode cJ21_grow 9 = .ok (.isub, 1) := dk_100 (dk_at dksJ21_grow_0 9 rfl rfl)
theorem dJ21_grow_10 : decode cJ21_grow 10 = .ok (.iload_n 2, 1) := dk_28 (dk_at dksJ21_grow_0 10 rfl rfl)
theorem dJ21_grow_11 : decode cJ21_grow 11 = .ok (.bipush 64, 2) := dk_16 64 (dk_at dksJ21_grow_0 11 rfl rfl)
theorem dJ21_grow_13 : decode cJ21_grow 13 = .ok (.if_icmp .ge 9, 3) := dk_162 0 9 (dk_at dksJ21_grow_0 13 rfl rfl)
theorem dJ21_grow_16 : decode cJ21_grow 16 = .ok (.iload_n 2, 1) := dk_28 (dk_at dksJ21_grow_0 16 rfl rfl)
theorem dJ21_grow_17 : decode cJ21_grow 17 = .ok (.iconst 2, 1) := dk_5 (dk_at dksJ21_grow_0 17 rfl rfl)
theorem dJ21_grow_18 : decode cJ21_grow 18 = .ok (.iadd, 1) := dk_96 (dk_at dksJ21_grow_0 18 rfl rfl)
theorem dJ21_grow_19 : decode cJ21_grow 19 = .ok (.goto 6, 3) := dk_167 0 6 (dk_at dksJ21_grow_0 19 rfl rfl)
theorem dJ21_grow_22 : decode cJ21_grow 22 = .ok (.iload_n 2, 1) := dk_28 (dk_at dksJ21_grow_0 22 rfl rfl)
theorem dJ21_grow_23 : decode cJ21_grow 23 = .ok (.iconst 1, 1) := dk_4 (dk_at dksJ21_grow_0 23 rfl rfl)
theorem dJ21_grow_24 : decode cJ21_grow 24 = .ok (.ishr, 1) := dk_122 (dk_at dksJ21_grow_1 0 rfl rfl)
theorem dJ21_grow_25 : decode cJ21_grow 25 = .ok (.invokestatic 80, 3) := dk_184 0 80 (dk_at dksJ21_grow_1 1 rfl rfl)
theorem dJ21_grow_28 : decode cJ21_grow 28 = .ok (.istore_n 3, 1) := dk_62 (dk_at dksJ21_grow_1 4 rfl rfl)
theorem dJ21_grow_29 : decode cJ21_grow 29 = .ok (.aload_n 0, 1) := dk_42 (dk_at dksJ21_grow_1 5 rfl rfl)
theorem dJ21_grow_30 : decode cJ21_grow 30 = .ok (.aload_n 0, 1) := dk_42 (dk_at dksJ21_grow_1 6 rfl rfl)
theorem dJ21_grow_31 : decode cJ21_grow 31 = .ok (.getfield 17, 3) := dk_180 0 17 (dk_at dksJ21_grow_1 7 rfl rfl)
theorem dJ21_grow_34 : decode cJ21_grow 34 = .ok (.iload_n 3, 1) := dk_29 (dk_at dksJ21_grow_1 10 rfl rfl)
theorem dJ21_grow_35 : decode cJ21_grow 35 = .ok (.invokestatic 86, 3) := dk_184 0 86 (dk_at dksJ21_grow_1 11 rfl rfl)
theorem dJ21_grow_38 : decode cJ21_grow 38 = .ok (.putfield 17, 3) := dk_181 0 17 (dk_at dksJ21_grow_1 14 rfl rfl)
theorem dJ21_grow_41 : decode cJ21_grow 41 = .ok (.return_, 1) := dk_177 (dk_at dksJ21_grow_1 17 rfl rfl)
abbrev cJ21_siftUp : ByteArray := prog_48_method_27_code
def yJ21_siftUp : MethodName := ⟨RJ21, "siftUp", "(ILjava/lang/Object;)V"⟩
def dkwJ21_siftUp_1 : List UInt8 := [44, 42, 180, 0, 17, 184, 0, 140, 177]
abbrev dktJ21_siftUp_1 : List UInt8 := dkwJ21_siftUp_1 ++ []
def dkwJ21_siftUp_0 : List UInt8 := [42, 180, 0, 21, 198, 0, 19, 27, 44, 42, 180, 0, 17, 42, 180, 0, 21, 184, 0, 136, 167, 0, 12, 27]
abbrev dktJ21_siftUp_0 : List UInt8 := dkwJ21_siftUp_0 ++ dktJ21_siftUp_1
theorem dksJ21_siftUp_0 : cJ21_siftUp.data.toList.drop 0 = dktJ21_siftUp_0 := by decide +kernel
theorem dksJ21_siftUp_1 : cJ21_siftUp.data.toList.drop 24 = dktJ21_siftUp_1 := dk_seg dksJ21_siftUp_0 24 rfl rfl
theorem dJ21_siftUp_0 : decode cJ21_siftUp 0 = .ok (.aload_n 0, 1) := dk_42 (dk_at dksJ21_siftUp_0 0 rfl rfl)
theorem dJ21_siftUp_1 : decode cJ21_siftUp 1 = .ok (.getfield 21, 3) := dk_180 0 21 (dk_at dksJ21_siftUp_0 1 rfl rfl)
theorem dJ21_siftUp_4 : decode cJ21_siftUp 4 = .ok (.ifnull 19, 3) := dk_198 0 19 (dk_at dksJ21_siftUp_0 4 rfl rfl)
theorem dJ21_siftUp_7 : decode cJ21_siftUp 7 = .ok (.iload_n 1, 1) := dk_27 (dk_at dksJ21_siftUp_0 7 rfl rfl)
theorem dJ21_siftUp_8 : decode cJ21_siftUp 8 = .ok (.aload_n 2, 1) := dk_44 (dk_at dksJ21_siftUp_0 8 rfl rfl)
theorem dJ21_siftUp_9 : decode cJ21_siftUp 9 = .ok (.aload_n 0, 1) := dk_42 (dk_at dksJ21_siftUp_0 9 rfl rfl)
theorem dJ21_siftUp_10 : decode cJ21_siftUp 10 = .ok (.getfield 17, 3) := dk_180 0 17 (dk_at dksJ21_siftUp_0 10 rfl rfl)
theorem dJ21_siftUp_13 : decode cJ21_siftUp 13 = .ok (.aload_n 0, 1) := dk_42 (dk_at dksJ21_siftUp_0 13 rfl rfl)
theorem dJ21_siftUp_14 : decode cJ21_siftUp 14 = .ok (.getfield 21, 3) := dk_180 0 21 (dk_at dksJ21_siftUp_0 14 rfl rfl)
theorem dJ21_siftUp_17 : decode cJ21_siftUp 17 = .ok (.invokestatic 136, 3) := dk_184 0 136 (dk_at dksJ21_siftUp_0 17 rfl rfl)
theorem dJ21_siftUp_20 : decode cJ21_siftUp 20 = .ok (.goto 12, 3) := dk_167 0 12 (dk_at dksJ21_siftUp_0 20 rfl rfl)
theorem dJ21_siftUp_23 : decode cJ21_siftUp 23 = .ok (.iload_n 1, 1) := dk_27 (dk_at dksJ21_siftUp_0 23 rfl rfl)
theorem dJ21_siftUp_24 : decode cJ21_siftUp 24 = .ok (.aload_n 2, 1) := dk_44 (dk_at dksJ21_siftUp_1 0 rfl rfl)
theorem dJ21_siftUp_25 : decode cJ21_siftUp 25 = .ok (.aload_n 0, 1) := dk_42 (dk_at dksJ21_siftUp_1 1 rfl rfl)
theorem dJ21_siftUp_26 : decode cJ21_siftUp 26 = .ok (.getfield 17, 3) := dk_180 0 17 (dk_at dksJ21_siftUp_1 2 rfl rfl)
theorem dJ21_siftUp_29 : decode cJ21_siftUp 29 = .ok (.invokestatic 140, 3) := dk_184 0 140 (dk_at dksJ21_siftUp_1 5 rfl rfl)
theorem dJ21_siftUp_32 : decode cJ21_siftUp 32 = .ok (.return_, 1) := dk_177 (dk_at dksJ21_siftUp_1 8 rfl rfl)
abbrev cJ21_siftUpUsingComparator : ByteArray := prog_48_method_29_code
def yJ21_siftUpUsingComparator : MethodName := ⟨RJ21, "siftUpUsingComparator", "(ILjava/lang/Object;[Ljava/lang/Object;Ljava/util/Comparator;)V"⟩
def dkwJ21_siftUpUsingComparator_2 : List UInt8 := [43, 83, 177]
abbrev dktJ21_siftUpUsingComparator_2 : List UInt8 := dkwJ21_siftUpUsingComparator_2 ++ []
def dkwJ21_siftUpUsingComparator_1 : List UInt8 := [185, 0, 149, 3, 0, 155, 0, 6, 167, 0, 14, 44, 26, 25, 5, 83, 21, 4, 59, 167, 255, 216, 44, 26]
abbrev dktJ21_siftUpUsingComparator_1 : List UInt8 := dkwJ21_siftUpUsingComparator_1 ++ dktJ21_siftUpUsingComparator_2
def dkwJ21_siftUpUsingComparator_0 : List UInt8 := [26, 158, 0, 42, 26, 4, 100, 4, 124, 54, 4, 44, 21, 4, 50, 58, 5, 45, 43, 25, 5]
abbrev dktJ21_siftUpUsingComparator_0 : List UInt8 := dkwJ21_siftUpUsingComparator_0 ++ dktJ21_siftUpUsingComparator_1
theorem dksJ21_siftUpUsingComparator_0 : cJ21_siftUpUsingComparator.data.toList.drop 0 = dktJ21_siftUpUsingComparator_0 := by decide +kernel
theorem dksJ21_siftUpUsingComparator_1 : cJ21_siftUpUsingComparator.data.toList.drop 21 = dktJ21_siftUpUsingComparator_1 := dk_seg dksJ21_siftUpUsingComparator_0 21 rfl rfl
theorem dksJ21_siftUpUsingComparator_2 : cJ21_siftUpUsingComparator.data.toList.drop 45 = dktJ21_siftUpUsingComparator_2 := dk_seg dksJ21_siftUpUsingComparator_1 24 rfl rfl
theorem dJ21_siftUpUsingComparator_0 : decode cJ21_siftUpUsingComparator 0 = .ok (.iload_n 0, 1) := dk_26 (dk_at dksJ21_siftUpUsingComparator_0 0 rfl rfl)
theorem dJ21_siftUpUsingComparator_1 : decode cJ21_siftUpUsingComparator 1 = .ok (.ifCond .le 42, 3) := dk_158 0 42 (dk_at dksJ21_siftUpUsingComparator_0 1 rfl rfl)
theorem dJ21_siftUpUsingComparator_4 : decode cJ21_siftUpUsingComparator 4 = .ok (.iload_n 0, 1) := dk_26 (dk_at dksJ21_siftUpUsingComparator_0 4 rfl rfl)
theorem dJ21_siftUpUsingComparator_5 : decode cJ21_siftUpUsingComparator 5 = .ok (.iconst 1, 1) := dk_4 (dk_at dksJ21_siftUpUsingComparator_0 5 rfl rfl)
theorem dJ21_siftUpUsingComparator_6 : decode cJ21_siftUpUsingComparator 6 = .ok (.isub, 1) := dk_100 (dk_at dksJ21_siftUpUsingComparator_0 6 rfl rfl)
theorem dJ21_siftUpUsingComparator_7 : decode cJ21_siftUpUsingComparator 7 = .ok (.iconst 1, 1) := dk_4 (dk_at dksJ21_siftUpUsingComparator_0 7 rfl rfl)
theorem dJ21_siftUpUsingComparator_8 : decode cJ21_siftUpUsingComparator 8 = .ok (.iushr, 1) := dk_124 (dk_at dksJ21_siftUpUsingComparator_0 8 rfl rfl)
theorem dJ21_siftUpUsingComparator_9 : decode cJ21_siftUpUsingComparator 9 = .ok (.istore 4, 2) := dk_54 4 (dk_at dksJ21_siftUpUsingComparator_0 9 rfl rfl)
theorem dJ21_siftUpUsingComparator_11 : decode cJ21_siftUpUsingComparator 11 = .ok (.aload_n 2, 1) := dk_44 (dk_at dksJ21_siftUpUsingComparator_0 11 rfl rfl)
theorem dJ21_siftUpUsingComparator_12 : decode cJ21_siftUpUsingComparator 12 = .ok (.iload 4, 2) := dk_21 4 (dk_at dksJ21_siftUpUsingComparator_0 12 rfl rfl)
theorem dJ21_siftUpUsingComparator_14 : decode cJ21_siftUpUsingComparator 14 = .ok (.aaload, 1) := dk_50 (dk_at dksJ21_siftUpUsingComparator_0 14 rfl rfl)
theorem dJ21_siftUpUsingComparator_15 : decode cJ21_siftUpUsingComparator 15 = .ok (.astore 5, 2) := dk_58 5 (dk_at dksJ21_siftUpUsingComparator_0 15 rfl rfl)
theorem dJ21_siftUpUsingComparator_17 : decode cJ21_siftUpUsingComparator 17 = .ok (.aload_n 3, 1) := dk_45 (dk_at dksJ21_siftUpUsingComparator_0 17 rfl rfl)
theorem dJ21_siftUpUsingComparator_18 : decode cJ21_siftUpUsingComparator 18 = .ok (.aload_n 1, 1) := dk_43 (dk_at dksJ21_siftUpUsingComparator_0 18 rfl rfl)
theorem dJ21_siftUpUsingComparator_19 : decode cJ21_siftUpUsingComparator 19 = .ok (.aload 5, 2) := dk_25 5 (dk_at dksJ21_siftUpUsingComparator_0 19 rfl rfl)
theorem dJ21_siftUpUsingComparator_21 : decode cJ21_siftUpUsingComparator 21 = .ok (.invokeinterface 149 3, 5) := by decide +kernel
theorem dJ21_siftUpUsingComparator_26 : decode cJ21_siftUpUsingComparator 26 = .ok (.ifCond .lt 6, 3) := dk_155 0 6 (dk_at dksJ21_siftUpUsingComparator_1 5 rfl rfl)
theorem dJ21_siftUpUsingComparator_29 : decode cJ21_siftUpUsingComparator 29 = .ok (.goto 14, 3) := dk_167 0 14 (dk_at dksJ21_siftUpUsingComparator_1 8 rfl rfl)
theorem dJ21_siftUpUsingComparator_32 : decode cJ21_siftUpUsingComparator 32 = .ok (.aload_n 2, 1) := dk_44 (dk_at dksJ21_siftUpUsingComparator_1 11 rfl rfl)
theorem dJ21_siftUpUsingComparator_33 : decode cJ21_siftUpUsingComparator 33 = .ok (.iload_n 0, 1) := dk_26 (dk_at dksJ21_siftUpUsingComparator_1 12 rfl rfl)
theorem dJ21_siftUpUsingComparator_34 : decode cJ21_siftUpUsingComparator 34 = .ok (.aload 5, 2) := dk_25 5 (dk_at dksJ21_siftUpUsingComparator_1 13 rfl rfl)
theorem dJ21_siftUpUsingComparator_36 : decode cJ21_siftUpUsingComparator 36 = .ok (.aastore, 1) := dk_83 (dk_at dksJ21_siftUpUsingComparator_1 15 rfl rfl)
theorem dJ21_siftUpUsingComparator_37 : decode cJ21_siftUpUsingComparator 37 = .ok (.iload 4, 2) := dk_21 4 (dk_at dksJ21_siftUpUsingComparator_1 16 rfl rfl)
theorem dJ21_siftUpUsingComparator_39 : decode cJ21_siftUpUsingComparator 39 = .ok (.istore_n 0, 1) := dk_59 (dk_at dksJ21_siftUpUsingComparator_1 18 rfl rfl)
theorem dJ21_siftUpUsingComparator_40 : decode cJ21_siftUpUsingComparator 40 = .ok (.goto (-40), 3) := dk_167 255 216 (dk_at dksJ21_siftUpUsingComparator_1 19 rfl rfl)
theorem dJ21_siftUpUsingComparator_43 : decode cJ21_siftUpUsingComparator 43 = .ok (.aload_n 2, 1) := dk_44 (dk_at dksJ21_siftUpUsingComparator_1 22 rfl rfl)
theorem dJ21_siftUpUsingComparator_44 : decode cJ21_siftUpUsingComparator 44 = .ok (.iload_n 0, 1) := dk_26 (dk_at dksJ21_siftUpUsingComparator_1 23 rfl rfl)
theorem dJ21_siftUpUsingComparator_45 : decode cJ21_siftUpUsingComparator 45 = .ok (.aload_n 1, 1) := dk_43 (dk_at dksJ21_siftUpUsingComparator_2 0 rfl rfl)
theorem dJ21_siftUpUsingComparator_46 : decode cJ21_siftUpUsingComparator 46 = .ok (.aastore, 1) := dk_83 (dk_at dksJ21_siftUpUsingComparator_2 1 rfl rfl)
theorem dJ21_siftUpUsingComparator_47 : decode cJ21_siftUpUsingComparator 47 = .ok (.return_, 1) := dk_177 (dk_at dksJ21_siftUpUsingComparator_2 2 rfl rfl)
abbrev cJ21_siftUpComparable : ByteArray := prog_48_method_28_code
def yJ21_siftUpComparable : MethodName := ⟨RJ21, "siftUpComparable", "(ILjava/lang/Object;[Ljava/lang/Object;)V"⟩
def dkwJ21_siftUpComparable_2 : List UInt8 := [44, 26, 45, 83, 177]
abbrev dktJ21_siftUpComparable_2 : List UInt8 := dkwJ21_siftUpComparable_2 ++ []
def dkwJ21_siftUpComparable_1 : List UInt8 := [25, 5, 185, 0, 146, 2, 0, 155, 0, 6, 167, 0, 14, 44, 26, 25, 5, 83, 21, 4, 59, 167, 255, 217]
abbrev dktJ21_siftUpComparable_1 : List UInt8 := dkwJ21_siftUpComparable_1 ++ dktJ21_siftUpComparable_2
def dkwJ21_siftUpComparable_0 : List UInt8 := [43, 192, 0, 144, 78, 26, 158, 0, 41, 26, 4, 100, 4, 124, 54, 4, 44, 21, 4, 50, 58, 5, 45]
abbrev dktJ21_siftUpComparable_0 : List UInt8 := dkwJ21_siftUpComparable_0 ++ dktJ21_siftUpComparable_1
theorem dksJ21_siftUpComparable_0 : cJ21_siftUpComparable.data.toList.drop 0 = dktJ21_siftUpComparable_0 := by decide +kernel
theorem dksJ21_siftUpComparable_1 : cJ21_siftUpComparable.data.toList.drop 23 = dktJ21_siftUpComparable_1 := dk_seg dksJ21_siftUpComparable_0 23 rfl rfl
theorem dksJ21_siftUpComparable_2 : cJ21_siftUpComparable.data.toList.drop 47 = dktJ21_siftUpComparable_2 := dk_seg dksJ21_siftUpComparable_1 24 rfl rfl
theorem dJ21_siftUpComparable_0 : decode cJ21_siftUpComparable 0 = .ok (.aload_n 1, 1) := dk_43 (dk_at dksJ21_siftUpComparable_0 0 rfl rfl)
theorem dJ21_siftUpComparable_1 : decode cJ21_siftUpComparable 1 = .ok (.checkcast 144, 3) := dk_192 0 144 (dk_at dksJ21_siftUpComparable_0 1 rfl rfl)
theorem dJ21_siftUpComparable_4 : decode cJ21_siftUpComparable 4 = .ok (.astore_n 3, 1) := dk_78 (dk_at dksJ21_siftUpComparable_0 4 rfl rfl)
theorem dJ21_siftUpComparable_5 : decode cJ21_siftUpComparable 5 = .ok (.iload_n 0, 1) := dk_26 (dk_at dksJ21_siftUpComparable_0 5 rfl rfl)
theorem dJ21_siftUpComparable_6 : decode cJ21_siftUpComparable 6 = .ok (.ifCond .le 41, 3) := dk_158 0 41 (dk_at dksJ21_siftUpComparable_0 6 rfl rfl)
theorem dJ21_siftUpComparable_9 : decode cJ21_siftUpComparable 9 = .ok (.iload_n 0, 1) := dk_26 (dk_at dksJ21_siftUpComparable_0 9 rfl rfl)
theorem dJ21_siftUpComparable_10 : decode cJ21_siftUpComparable 10 = .ok (.iconst 1, 1) := dk_4 (dk_at dksJ21_siftUpComparable_0 10 rfl rfl)
theorem dJ21_siftUpComparable_11 : decode cJ21_siftUpComparable 11 = .ok (.isub, 1) := dk_100 (dk_at dksJ21_siftUpComparable_0 11 rfl rfl)
theorem dJ21_siftUpComparable_12 : decode cJ21_siftUpComparable 12 = .ok (.iconst 1, 1) := dk_4 (dk_at dksJ21_siftUpComparable_0 12 rfl rfl)
theorem dJ21_siftUpComparable_13 : decode cJ21_siftUpComparable 13 = .ok (.iushr, 1) := dk_124 (dk_at dksJ21_siftUpComparable_0 13 rfl rfl)
theorem dJ21_siftUpComparable_14 : decode cJ21_siftUpComparable 14 = .ok (.istore 4, 2) := dk_54 4 (dk_at dksJ21_siftUpComparable_0 14 rfl rfl)
theorem dJ21_siftUpComparable_16 : decode cJ21_siftUpComparable 16 = .ok (.aload_n 2, 1) := dk_44 (dk_at dksJ21_siftUpComparable_0 16 rfl rfl)
theorem dJ21_siftUpComparable_17 : decode cJ21_siftUpComparable 17 = .ok (.iload 4, 2) := dk_21 4 (dk_at dksJ21_siftUpComparable_0 17 rfl rfl)
theorem dJ21_siftUpComparable_19 : decode cJ21_siftUpComparable 19 = .ok (.aaload, 1) := dk_50 (dk_at dksJ21_siftUpComparable_0 19 rfl rfl)
theorem dJ21_siftUpComparable_20 : decode cJ21_siftUpComparable 20 = .ok (.astore 5, 2) := dk_58 5 (dk_at dksJ21_siftUpComparable_0 20 rfl rfl)
theorem dJ21_siftUpComparable_22 : decode cJ21_siftUpComparable 22 = .ok (.aload_n 3, 1) := dk_45 (dk_at dksJ21_siftUpComparable_0 22 rfl rfl)
theorem dJ21_siftUpComparable_23 : decode cJ21_siftUpComparable 23 = .ok (.aload 5, 2) := dk_25 5 (dk_at dksJ21_siftUpComparable_1 0 rfl rfl)
theorem dJ21_siftUpComparable_25 : decode cJ21_siftUpComparable 25 = .ok (.invokeinterface 146 2, 5) := by decide +kernel
theorem dJ21_siftUpComparable_30 : decode cJ21_siftUpComparable 30 = .ok (.ifCond .lt 6, 3) := dk_155 0 6 (dk_at dksJ21_siftUpComparable_1 7 rfl rfl)
theorem dJ21_siftUpComparable_33 : decode cJ21_siftUpComparable 33 = .ok (.goto 14, 3) := dk_167 0 14 (dk_at dksJ21_siftUpComparable_1 10 rfl rfl)
theorem dJ21_siftUpComparable_36 : decode cJ21_siftUpComparable 36 = .ok (.aload_n 2, 1) := dk_44 (dk_at dksJ21_siftUpComparable_1 13 rfl rfl)
theorem dJ21_siftUpComparable_37 : decode cJ21_siftUpComparable 37 = .ok (.iload_n 0, 1) := dk_26 (dk_at dksJ21_siftUpComparable_1 14 rfl rfl)
theorem dJ21_siftUpComparable_38 : decode cJ21_siftUpComparable 38 = .ok (.aload 5, 2) := dk_25 5 (dk_at dksJ21_siftUpComparable_1 15 rfl rfl)
theorem dJ21_siftUpComparable_40 : decode cJ21_siftUpComparable 40 = .ok (.aastore, 1) := dk_83 (dk_at dksJ21_siftUpComparable_1 17 rfl rfl)
theorem dJ21_siftUpComparable_41 : decode cJ21_siftUpComparable 41 = .ok (.iload 4, 2) := dk_21 4 (dk_at dksJ21_siftUpComparable_1 18 rfl rfl)
theorem dJ21_siftUpComparable_43 : decode cJ21_siftUpComparable 43 = .ok (.istore_n 0, 1) := dk_59 (dk_at dksJ21_siftUpComparable_1 20 rfl rfl)
theorem dJ21_siftUpComparable_44 : decode cJ21_siftUpComparable 44 = .ok (.goto (-39), 3) := dk_167 255 217 (dk_at dksJ21_siftUpComparable_1 21 rfl rfl)
theorem dJ21_siftUpComparable_47 : decode cJ21_siftUpComparable 47 = .ok (.aload_n 2, 1) := dk_44 (dk_at dksJ21_siftUpComparable_2 0 rfl rfl)
theorem dJ21_siftUpComparable_48 : decode cJ21_siftUpComparable 48 = .ok (.iload_n 0, 1) := dk_26 (dk_at dksJ21_siftUpComparable_2 1 rfl rfl)
theorem dJ21_siftUpComparable_49 : decode cJ21_siftUpComparable 49 = .ok (.aload_n 3, 1) := dk_45 (dk_at dksJ21_siftUpComparable_2 2 rfl rfl)
theorem dJ21_siftUpComparable_50 : decode cJ21_siftUpComparable 50 = .ok (.aastore, 1) := dk_83 (dk_at dksJ21_siftUpComparable_2 3 rfl rfl)
theorem dJ21_siftUpComparable_51 : decode cJ21_siftUpComparable 51 = .ok (.return_, 1) := dk_177 (dk_at dksJ21_siftUpComparable_2 4 rfl rfl)
abbrev cJ21_size : ByteArray := prog_48_method_23_code
def yJ21_size : MethodName := ⟨RJ21, "size", "()I"⟩
theorem dJ21_size_0 : decode cJ21_size 0 = .ok (.aload_n 0, 1) := by decide +kernel
theorem dJ21_size_1 : decode cJ21_size 1 = .ok (.getfield 58, 3) := by decide +kernel
theorem dJ21_size_4 : decode cJ21_size 4 = .ok (.ireturn, 1) := by decide +kernel
abbrev cJ21_poll : ByteArray := prog_48_method_25_code
def yJ21_poll : MethodName := ⟨RJ21, "poll", "()Ljava/lang/Object;"⟩
def dkwJ21_poll_3 : List UInt8 := [43, 29, 25, 5, 184, 0, 129, 44, 176]
abbrev dktJ21_poll_3 : List UInt8 := dkwJ21_poll_3 ++ []
def dkwJ21_poll_2 : List UInt8 := [42, 180, 0, 21, 89, 58, 5, 199, 0, 14, 3, 25, 4, 43, 29, 184, 0, 125, 167, 0, 13, 3, 25, 4]
abbrev dktJ21_poll_2 : List UInt8 := dkwJ21_poll_2 ++ dktJ21_poll_3
def dkwJ21_poll_1 : List UInt8 := [42, 89, 180, 0, 58, 4, 100, 90, 181, 0, 58, 89, 62, 50, 58, 4, 43, 29, 1, 83, 29, 158, 0, 34]
abbrev dktJ21_poll_1 : List UInt8 := dkwJ21_poll_1 ++ dktJ21_poll_2
def dkwJ21_poll_0 : List UInt8 := [42, 180, 0, 17, 89, 76, 3, 50, 89, 77, 198, 0, 69, 42, 89, 180, 0, 93, 4, 96, 181, 0, 93, 43]
abbrev dktJ21_poll_0 : List UInt8 := dkwJ21_poll_0 ++ dktJ21_poll_1
theorem dksJ21_poll_0 : cJ21_poll.data.toList.drop 0 = dktJ21_poll_0 := by decide +kernel
theorem dksJ21_poll_1 : cJ21_poll.data.toList.drop 24 = dktJ21_poll_1 := dk_seg dksJ21_poll_0 24 rfl rfl
theorem dksJ21_poll_2 : cJ21_poll.data.toList.drop 48 = dktJ21_poll_2 := dk_seg dksJ21_poll_1 24 rfl rfl
theorem dksJ21_poll_3 : cJ21_poll.data.toList.drop 72 = dktJ21_poll_3 := dk_seg dksJ21_poll_2 24 rfl rfl
theorem dJ21_poll_0 : decode cJ21_poll 0 = .ok (.aload_n 0, 1) := dk_42 (dk_at dksJ21_poll_0 0 rfl rfl)
theorem dJ21_poll_1 : decode cJ21_poll 1 = .ok (.getfield 17, 3) := dk_180 0 17 (dk_at dksJ21_poll_0 1 rfl rfl)
theorem dJ21_poll_4 : decode cJ21_poll 4 = .ok (.dup, 1) := dk_89 (dk_at dksJ21_poll_0 4 rfl rfl)
theorem dJ21_poll_5 : decode cJ21_poll 5 = .ok (.astore_n 1, 1) := dk_76 (dk_at dksJ21_poll_0 5 rfl rfl)
theorem dJ21_poll_6 : decode cJ21_poll 6 = .ok (.iconst 0, 1) := dk_3 (dk_at dksJ21_poll_0 6 rfl rfl)
theorem dJ21_poll_7 : decode cJ21_poll 7 = .ok (.aaload, 1) := dk_50 (dk_at dksJ21_poll_0 7 rfl rfl)
theorem dJ21_poll_8 : decode cJ21_poll 8 = .ok (.dup, 1) := dk_89 (dk_at dksJ21_poll_0 8 rfl rfl)
theorem dJ21_poll_9 : decode cJ21_poll 9 = .ok (.astore_n 2, 1) := dk_77 (dk_at dksJ21_poll_0 9 rfl rfl)
theorem dJ21_poll_10 : decode cJ21_poll 10 = .ok (.ifnull 69, 3) := dk_198 0 69 (dk_at dksJ21_poll_0 10 rfl rfl)
theorem dJ21_poll_13 : decode cJ21_poll 13 = .ok (.aload_n 0, 1) := dk_42 (dk_at dksJ21_poll_0 13 rfl rfl)
theorem dJ21_poll_14 : decode cJ21_poll 14 = .ok (.dup, 1) := dk_89 (dk_at dksJ21_poll_0 14 rfl rfl)
theorem dJ21_poll_15 : decode cJ21_poll 15 = .ok (.getfield 93, 3) := dk_180 0 93 (dk_at dksJ21_poll_0 15 rfl rfl)
theorem dJ21_poll_18 : decode cJ21_poll 18 = .ok (.iconst 1, 1) := dk_4 (dk_at dksJ21_poll_0 18 rfl rfl)
theorem dJ21_poll_19 : decode cJ21_poll 19 = .ok (.iadd, 1) := dk_96 (dk_at dksJ21_poll_0 19 rfl rfl)
theorem dJ21_poll_20 : decode cJ21_poll 20 = .ok (.putfield 93, 3) := dk_181 0 93 (dk_at dksJ21_poll_0 20 rfl rfl)
theorem dJ21_poll_23 : decode cJ21_poll 23 = .ok (.aload_n 1, 1) := dk_43 (dk_at dksJ21_poll_0 23 rfl rfl)
theorem dJ21_poll_24 : decode cJ21_poll 24 = .ok (.aload_n 0, 1) := dk_42 (dk_at dksJ21_poll_1 0 rfl rfl)
theorem dJ21_poll_25 : decode cJ21_poll 25 = .ok (.dup, 1) := dk_89 (dk_at dksJ21_poll_1 1 rfl rfl)
theorem dJ21_poll_26 : decode cJ21_poll 26 = .ok (.getfield 58, 3) := dk_180 0 58 (dk_at dksJ21_poll_1 2 rfl rfl)
theorem dJ21_poll_29 : decode cJ21_poll 29 = .ok (.iconst 1, 1) := dk_4 (dk_at dksJ21_poll_1 5 rfl rfl)
theorem dJ21_poll_30 : decode cJ21_poll 30 = .ok (.isub, 1) := dk_100 (dk_at dksJ21_poll_1 6 rfl rfl)
theorem dJ21_poll_31 : decode cJ21_poll 31 = .ok (.dup_x1, 1) := dk_90 (dk_at dksJ21_poll_1 7 rfl rfl)
theorem dJ21_poll_32 : decode cJ21_poll 32 = .ok (.putfield 58, 3) := dk_181 0 58 (dk_at dksJ21_poll_1 8 rfl rfl)
theorem dJ21_poll_35 : decode cJ21_poll 35 = .ok (.dup, 1) := dk_89 (dk_at dksJ21_poll_1 11 rfl rfl)
theorem dJ21_poll_36 : decode cJ21_poll 36 = .ok (.istore_n 3, 1) := dk_62 (dk_at dksJ21_poll_1 12 rfl rfl)
theorem dJ21_poll_37 : decode cJ21_poll 37 = .ok (.aaload, 1) := dk_50 (dk_at dksJ21_poll_1 13 rfl rfl)
theorem dJ21_poll_38 : decode cJ21_poll 38 = .ok (.astore 4, 2) := dk_58 4 (dk_at dksJ21_poll_1 14 rfl rfl)
theorem dJ21_poll_40 : decode cJ21_poll 40 = .ok (.aload_n 1, 1) := dk_43 (dk_at dksJ21_poll_1 16 rfl rfl)
theorem dJ21_poll_41 : decode cJ21_poll 41 = .ok (.iload_n 3, 1) := dk_29 (dk_at dksJ21_poll_1 17 rfl rfl)
theorem dJ21_poll_42 : decode cJ21_poll 42 = .ok (.aconst_null, 1) := dk_1 (dk_at dksJ21_poll_1 18 rfl rfl)
theorem dJ21_poll_43 : decode cJ21_poll 43 = .ok (.aastore, 1) := dk_83 (dk_at dksJ21_poll_1 19 rfl rfl)
theorem dJ21_poll_44 : decode cJ21_poll 44 = .ok (.iload_n 3, 1) := dk_29 (dk_at dksJ21_poll_1 20 rfl rfl)
theorem dJ21_poll_45 : decode cJ21_poll 45 = .ok (.ifCond .le 34, 3) := dk_158 0 34 (dk_at dksJ21_poll_1 21 rfl rfl)
theorem dJ21_poll_48 : decode cJ21_poll 48 = .ok (.aload_n 0, 1) := dk_42 (dk_at dksJ21_poll_2 0 rfl rfl)
theorem dJ21_poll_49 : decode cJ21_poll 49 = .ok (.getfield 21, 3) := dk_180 0 21 (dk_at dksJ21_poll_2 1 rfl rfl)
theorem dJ21_poll_52 : decode cJ21_poll 52 = .ok (.dup, 1) := dk_89 (dk_at dksJ21_poll_2 4 rfl rfl)
theorem dJ21_poll_53 : decode cJ21_poll 53 = .ok (.astore 5, 2) := dk_58 5 (dk_at dksJ21_poll_2 5 rfl rfl)
theorem dJ21_poll_55 : decode cJ21_poll 55 = .ok (.ifnonnull 14, 3) := dk_199 0 14 (dk_at dksJ21_poll_2 7 rfl rfl)
theorem dJ21_poll_58 : decode cJ21_poll 58 = .ok (.iconst 0, 1) := dk_3 (dk_at dksJ21_poll_2 10 rfl rfl)
theorem dJ21_poll_59 : decode cJ21_poll 59 = .ok (.aload 4, 2) := dk_25 4 (dk_at dksJ21_poll_2 11 rfl rfl)
theorem dJ21_poll_61 : decode cJ21_poll 61 = .ok (.aload_n 1, 1) := dk_43 (dk_at dksJ21_poll_2 13 rfl rfl)
theorem dJ21_poll_62 : decode cJ21_poll 62 = .ok (.iload_n 3, 1) := dk_29 (dk_at dksJ21_poll_2 14 rfl rfl)
theorem dJ21_poll_63 : decode cJ21_poll 63 = .ok (.invokestatic 125, 3) := dk_184 0 125 (dk_at dksJ21_poll_2 15 rfl rfl)
theorem dJ21_poll_66 : decode cJ21_poll 66 = .ok (.goto 13, 3) := dk_167 0 13 (dk_at dksJ21_poll_2 18 rfl rfl)
theorem dJ21_poll_69 : decode cJ21_poll 69 = .ok (.iconst 0, 1) := dk_3 (dk_at dksJ21_poll_2 21 rfl rfl)
theorem dJ21_poll_70 : decode cJ21_poll 70 = .ok (.aload 4, 2) := dk_25 4 (dk_at dksJ21_poll_2 22 rfl rfl)
theorem dJ21_poll_72 : decode cJ21_poll 72 = .ok (.aload_n 1, 1) := dk_43 (dk_at dksJ21_poll_3 0 rfl rfl)
theorem dJ21_poll_73 : decode cJ21_poll 73 = .ok (.iload_n 3, 1) := dk_29 (dk_at dksJ21_poll_3 1 rfl rfl)
theorem dJ21_poll_74 : decode cJ21_poll 74 = .ok (.aload 5, 2) := dk_25 5 (dk_at dksJ21_poll_3 2 rfl rfl)
theorem dJ21_poll_76 : decode cJ21_poll 76 = .ok (.invokestatic 129, 3) := dk_184 0 129 (dk_at dksJ21_poll_3 4 rfl rfl)
theorem dJ21_poll_79 : decode cJ21_poll 79 = .ok (.aload_n 2, 1) := dk_44 (dk_at dksJ21_poll_3 7 rfl rfl)
theorem dJ21_poll_80 : decode cJ21_poll 80 = .ok (.areturn, 1) := dk_176 (dk_at dksJ21_poll_3 8 rfl rfl)
abbrev cJ21_siftDownComparable : ByteArray := prog_48_method_31_code
def yJ21_siftDownComparable : MethodName := ⟨RJ21, "siftDownComparable", "(ILjava/lang/Object;[Ljava/lang/Object;I)V"⟩
def dkwJ21_siftDownComparable_4 : List UInt8 := [25, 4, 83, 177]
abbrev dktJ21_siftDownComparable_4 : List UInt8 := dkwJ21_siftDownComparable_4 ++ []
def dkwJ21_siftDownComparable_3 : List UInt8 := [185, 0, 146, 2, 0, 157, 0, 6, 167, 0, 14, 44, 26, 25, 7, 83, 21, 6, 59, 167, 255, 176, 44, 26]
abbrev dktJ21_siftDownComparable_3 : List UInt8 := dkwJ21_siftDownComparable_3 ++ dktJ21_siftDownComparable_4
def dkwJ21_siftDownComparable_2 : List UInt8 := [21, 8, 50, 185, 0, 146, 2, 0, 158, 0, 12, 44, 21, 8, 89, 54, 6, 50, 58, 7, 25, 4, 25, 7]
abbrev dktJ21_siftDownComparable_2 : List UInt8 := dkwJ21_siftDownComparable_2 ++ dktJ21_siftDownComparable_3
def dkwJ21_siftDownComparable_1 : List UInt8 := [44, 21, 6, 50, 58, 7, 21, 6, 4, 96, 54, 8, 21, 8, 29, 162, 0, 29, 25, 7, 192, 0, 144, 44]
abbrev dktJ21_siftDownComparable_1 : List UInt8 := dkwJ21_siftDownComparable_1 ++ dktJ21_siftDownComparable_2
def dkwJ21_siftDownComparable_0 : List UInt8 := [43, 192, 0, 144, 58, 4, 29, 4, 124, 54, 5, 26, 21, 5, 162, 0, 80, 26, 4, 120, 4, 96, 54, 6]
abbrev dktJ21_siftDownComparable_0 : List UInt8 := dkwJ21_siftDownComparable_0 ++ dktJ21_siftDownComparable_1
theorem dksJ21_siftDownComparable_0 : cJ21_siftDownComparable.data.toList.drop 0 = dktJ21_siftDownComparable_0 := by decide +kernel
theorem dksJ21_siftDownComparable_1 : cJ21_siftDownComparable.data.toList.drop 24 = dktJ21_siftDownComparable_1 := dk_seg dksJ21_siftDownComparable_0 24 rfl rfl
theorem dksJ21_siftDownComparable_2 : cJ21_siftDownComparable.data.toList.drop 48 = dktJ21_siftDownComparable_2 := dk_seg dksJ21_siftDownComparable_1 24 rfl rfl
theorem dksJ21_siftDownComparable_3 : cJ21_siftDownComparable.data.toList.drop 72 = dktJ21_siftDownComparable_3 := dk_seg dksJ21_siftDownComparable_2 24 rfl rfl
theorem dksJ21_siftDownComparable_4 : cJ21_siftDownComparable.data.toList.drop 96 = dktJ21_siftDownComparable_4 := dk_seg dksJ21_siftDownComparable_3 24 rfl rfl
theorem dJ21_siftDownComparable_0 : decode cJ21_siftDownComparable 0 = .ok (.aload_n 1, 1) := dk_43 (dk_at dksJ21_siftDownComparable_0 0 rfl rfl)
theorem dJ21_siftDownComparable_1 : decode cJ21_siftDownComparable 1 = .ok (.checkcast 144, 3) := dk_192 0 144 (dk_at dksJ21_siftDownComparable_0 1 rfl rfl)
theorem dJ21_siftDownComparable_4 : decode cJ21_siftDownComparable 4 = .ok (.astore 4, 2) := dk_58 4 (dk_at dksJ21_siftDownComparable_0 4 rfl rfl)
theorem dJ21_siftDownComparable_6 : decode cJ21_siftDownComparable 6 = .ok (.iload_n 3, 1) := dk_29 (dk_at dksJ21_siftDownComparable_0 6 rfl rfl)
theorem dJ21_siftDownComparable_7 : decode cJ21_siftDownComparable 7 = .ok (.iconst 1, 1) := dk_4 (dk_at dksJ21_siftDownComparable_0 7 rfl rfl)
theorem dJ21_siftDownComparable_8 : decode cJ21_siftDownComparable 8 = .ok (.iushr, 1) := dk_124 (dk_at dksJ21_siftDownComparable_0 8 rfl rfl)
theorem dJ21_siftDownComparable_9 : decode cJ21_siftDownComparable 9 = .ok (.istore 5, 2) := dk_54 5 (dk_at dksJ21_siftDownComparable_0 9 rfl rfl)
theorem dJ21_siftDownComparable_11 : decode cJ21_siftDownComparable 11 = .ok (.iload_n 0, 1) := dk_26 (dk_at dksJ21_siftDownComparable_0 11 rfl rfl)
theorem dJ21_siftDownComparable_12 : decode cJ21_siftDownComparable 12 = .ok (.iload 5, 2) := dk_21 5 (dk_at dksJ21_siftDownComparable_0 12 rfl rfl)
theorem dJ21_siftDownComparable_14 : decode cJ21_siftDownComparable 14 = .ok (.if_icmp .ge 80, 3) := dk_162 0 80 (dk_at dksJ21_siftDownComparable_0 14 rfl rfl)
theorem dJ21_siftDownComparable_17 : decode cJ21_siftDownComparable 17 = .ok (.iload_n 0, 1) := dk_26 (dk_at dksJ21_siftDownComparable_0 17 rfl rfl)
theorem dJ21_siftDownComparable_18 : decode cJ21_siftDownComparable 18 = .ok (.iconst 1, 1) := dk_4 (dk_at dksJ21_siftDownComparable_0 18 rfl rfl)
theorem dJ21_siftDownComparable_19 : decode cJ21_siftDownComparable 19 = .ok (.ishl, 1) := dk_120 (dk_at dksJ21_siftDownComparable_0 19 rfl rfl)
theorem dJ21_siftDownComparable_20 : decode cJ21_siftDownComparable 20 = .ok (.iconst 1, 1) := dk_4 (dk_at dksJ21_siftDownComparable_0 20 rfl rfl)
theorem dJ21_siftDownComparable_21 : decode cJ21_siftDownComparable 21 = .ok (.iadd, 1) := dk_96 (dk_at dksJ21_siftDownComparable_0 21 rfl rfl)
theorem dJ21_siftDownComparable_22 : decode cJ21_siftDownComparable 22 = .ok (.istore 6, 2) := dk_54 6 (dk_at dksJ21_siftDownComparable_0 22 rfl rfl)
theorem dJ21_siftDownComparable_24 : decode cJ21_siftDownComparable 24 = .ok (.aload_n 2, 1) := dk_44 (dk_at dksJ21_siftDownComparable_1 0 rfl rfl)
theorem dJ21_siftDownComparable_25 : decode cJ21_siftDownComparable 25 = .ok (.iload 6, 2) := dk_21 6 (dk_at dksJ21_siftDownComparable_1 1 rfl rfl)
theorem dJ21_siftDownComparable_27 : decode cJ21_siftDownComparable 27 = .ok (.aaload, 1) := dk_50 (dk_at dksJ21_siftDownComparable_1 3 rfl rfl)
theorem dJ21_siftDownComparable_28 : decode cJ21_siftDownComparable 28 = .ok (.astore 7, 2) := dk_58 7 (dk_at dksJ21_siftDownComparable_1 4 rfl rfl)
theorem dJ21_siftDownComparable_30 : decode cJ21_siftDownComparable 30 = .ok (.iload 6, 2) := dk_21 6 (dk_at dksJ21_siftDownComparable_1 6 rfl rfl)
theorem dJ21_siftDownComparable_32 : decode cJ21_siftDownComparable 32 = .ok (.iconst 1, 1) := dk_4 (dk_at dksJ21_siftDownComparable_1 8 rfl rfl)
theorem dJ21_siftDownComparable_33 : decode cJ21_siftDownComparable 33 = .ok (.iadd, 1) := dk_96 (dk_at dksJ21_siftDownComparable_1 9 rfl rfl)
theorem dJ21_siftDownComparable_34 : decode cJ21_siftDownComparable 34 = .ok (.istore 8, 2) := dk_54 8 (dk_at dksJ21_siftDownComparable_1 10 rfl rfl)
theorem dJ21_siftDownComparable_36 : decode cJ21_siftDownComparable 36 = .ok (.iload 8, 2) := dk_21 8 (dk_at dksJ21_siftDownComparable_1 12 rfl rfl)
theorem dJ21_siftDownComparable_38 : decode cJ21_siftDownComparable 38 = .ok (.iload_n 3, 1) := dk_29 (dk_at dksJ21_siftDownComparable_1 14 rfl rfl)
theorem dJ21_siftDownComparable_39 : decode cJ21_siftDownComparable 39 = .ok (.if_icmp .ge 29, 3) := dk_162 0 29 (dk_at dksJ21_siftDownComparable_1 15 rfl rfl)
theorem dJ21_siftDownComparable_42 : decode cJ21_siftDownComparable 42 = .ok (.aload 7, 2) := dk_25 7 (dk_at dksJ21_siftDownComparable_1 18 rfl rfl)
theorem dJ21_siftDownComparable_44 : decode cJ21_siftDownComparable 44 = .ok (.checkcast 144, 3) := dk_192 0 144 (dk_at dksJ21_siftDownComparable_1 20 rfl rfl)
theorem dJ21_siftDownComparable_47 : decode cJ21_siftDownComparable 47 = .ok (.aload_n 2, 1) := dk_44 (dk_at dksJ21_siftDownComparable_1 23 rfl rfl)
theorem dJ21_siftDownComparable_48 : decode cJ21_siftDownComparable 48 = .ok (.iload 8, 2) := dk_21 8 (dk_at dksJ21_siftDownComparable_2 0 rfl rfl)
theorem dJ21_siftDownComparable_50 : decode cJ21_siftDownComparable 50 = .ok (.aaload, 1) := dk_50 (dk_at dksJ21_siftDownComparable_2 2 rfl rfl)
theorem dJ21_siftDownComparable_51 : decode cJ21_siftDownComparable 51 = .ok (.invokeinterface 146 2, 5) := by decide +kernel
theorem dJ21_siftDownComparable_56 : decode cJ21_siftDownComparable 56 = .ok (.ifCond .le 12, 3) := dk_158 0 12 (dk_at dksJ21_siftDownComparable_2 8 rfl rfl)
theorem dJ21_siftDownComparable_59 : decode cJ21_siftDownComparable 59 = .ok (.aload_n 2, 1) := dk_44 (dk_at dksJ21_siftDownComparable_2 11 rfl rfl)
theorem dJ21_siftDownComparable_60 : decode cJ21_siftDownComparable 60 = .ok (.iload 8, 2) := dk_21 8 (dk_at dksJ21_siftDownComparable_2 12 rfl rfl)
theorem dJ21_siftDownComparable_62 : decode cJ21_siftDownComparable 62 = .ok (.dup, 1) := dk_89 (dk_at dksJ21_siftDownComparable_2 14 rfl rfl)
theorem dJ21_siftDownComparable_63 : decode cJ21_siftDownComparable 63 = .ok (.istore 6, 2) := dk_54 6 (dk_at dksJ21_siftDownComparable_2 15 rfl rfl)
theorem dJ21_siftDownComparable_65 : decode cJ21_siftDownComparable 65 = .ok (.aaload, 1) := dk_50 (dk_at dksJ21_siftDownComparable_2 17 rfl rfl)
theorem dJ21_siftDownComparable_66 : decode cJ21_siftDownComparable 66 = .ok (.astore 7, 2) := dk_58 7 (dk_at dksJ21_siftDownComparable_2 18 rfl rfl)
theorem dJ21_siftDownComparable_68 : decode cJ21_siftDownComparable 68 = .ok (.aload 4, 2) := dk_25 4 (dk_at dksJ21_siftDownComparable_2 20 rfl rfl)
theorem dJ21_siftDownComparable_70 : decode cJ21_siftDownComparable 70 = .ok (.aload 7, 2) := dk_25 7 (dk_at dksJ21_siftDownComparable_2 22 rfl rfl)
theorem dJ21_siftDownComparable_72 : decode cJ21_siftDownComparable 72 = .ok (.invokeinterface 146 2, 5) := by decide +kernel
theorem dJ21_siftDownComparable_77 : decode cJ21_siftDownComparable 77 = .ok (.ifCond .gt 6, 3) := dk_157 0 6 (dk_at dksJ21_siftDownComparable_3 5 rfl rfl)
theorem dJ21_siftDownComparable_80 : decode cJ21_siftDownComparable 80 = .ok (.goto 14, 3) := dk_167 0 14 (dk_at dksJ21_siftDownComparable_3 8 rfl rfl)
theorem dJ21_siftDownComparable_83 : decode cJ21_siftDownComparable 83 = .ok (.aload_n 2, 1) := dk_44 (dk_at dksJ21_siftDownComparable_3 11 rfl rfl)
theorem dJ21_siftDownComparable_84 : decode cJ21_siftDownComparable 84 = .ok (.iload_n 0, 1) := dk_26 (dk_at dksJ21_siftDownComparable_3 12 rfl rfl)
theorem dJ21_siftDownComparable_85 : decode cJ21_siftDownComparable 85 = .ok (.aload 7, 2) := dk_25 7 (dk_at dksJ21_siftDownComparable_3 13 rfl rfl)
theorem dJ21_siftDownComparable_87 : decode cJ21_siftDownComparable 87 = .ok (.aastore, 1) := dk_83 (dk_at dksJ21_siftDownComparable_3 15 rfl rfl)
theorem dJ21_siftDownComparable_88 : decode cJ21_siftDownComparable 88 = .ok (.iload 6, 2) := dk_21 6 (dk_at dksJ21_siftDownComparable_3 16 rfl rfl)
theorem dJ21_siftDownComparable_90 : decode cJ21_siftDownComparable 90 = .ok (.istore_n 0, 1) := dk_59 (dk_at dksJ21_siftDownComparable_3 18 rfl rfl)
theorem dJ21_siftDownComparable_91 : decode cJ21_siftDownComparable 91 = .ok (.goto (-80), 3) := dk_167 255 176 (dk_at dksJ21_siftDownComparable_3 19 rfl rfl)
theorem dJ21_siftDownComparable_94 : decode cJ21_siftDownComparable 94 = .ok (.aload_n 2, 1) := dk_44 (dk_at dksJ21_siftDownComparable_3 22 rfl rfl)
theorem dJ21_siftDownComparable_95 : decode cJ21_siftDownComparable 95 = .ok (.iload_n 0, 1) := dk_26 (dk_at dksJ21_siftDownComparable_3 23 rfl rfl)
theorem dJ21_siftDownComparable_96 : decode cJ21_siftDownComparable 96 = .ok (.aload 4, 2) := dk_25 4 (dk_at dksJ21_siftDownComparable_4 0 rfl rfl)
theorem dJ21_siftDownComparable_98 : decode cJ21_siftDownComparable 98 = .ok (.aastore, 1) := dk_83 (dk_at dksJ21_siftDownComparable_4 2 rfl rfl)
theorem dJ21_siftDownComparable_99 : decode cJ21_siftDownComparable 99 = .ok (.return_, 1) := dk_177 (dk_at dksJ21_siftDownComparable_4 3 rfl rfl)
abbrev cJ21_siftDownUsingComparator : ByteArray := prog_48_method_32_code
def yJ21_siftDownUsingComparator : MethodName := ⟨RJ21, "siftDownUsingComparator", "(ILjava/lang/Object;[Ljava/lang/Object;ILjava/util/Comparator;)V"⟩
def dkwJ21_siftDownUsingComparator_4 : List UInt8 := [43, 83, 177]
abbrev dktJ21_siftDownUsingComparator_4 : List UInt8 := dkwJ21_siftDownUsingComparator_4 ++ []
def dkwJ21_siftDownUsingComparator_3 : List UInt8 := [185, 0, 149, 3, 0, 157, 0, 6, 167, 0, 14, 44, 26, 25, 7, 83, 21, 6, 59, 167, 255, 176, 44, 26]
abbrev dktJ21_siftDownUsingComparator_3 : List UInt8 := dkwJ21_siftDownUsingComparator_3 ++ dktJ21_siftDownUsingComparator_4
def dkwJ21_siftDownUsingComparator_2 : List UInt8 := [185, 0, 149, 3, 0, 158, 0, 12, 44, 21, 8, 89, 54, 6, 50, 58, 7, 25, 4, 43, 25, 7]
abbrev dktJ21_siftDownUsingComparator_2 : List UInt8 := dkwJ21_siftDownUsingComparator_2 ++ dktJ21_siftDownUsingComparator_3
def dkwJ21_siftDownUsingComparator_1 : List UInt8 := [21, 6, 4, 96, 54, 8, 21, 8, 29, 162, 0, 28, 25, 4, 25, 7, 44, 21, 8, 50]
abbrev dktJ21_siftDownUsingComparator_1 : List UInt8 := dkwJ21_siftDownUsingComparator_1 ++ dktJ21_siftDownUsingComparator_2
def dkwJ21_siftDownUsingComparator_0 : List UInt8 := [29, 4, 124, 54, 5, 26, 21, 5, 162, 0, 80, 26, 4, 120, 4, 96, 54, 6, 44, 21, 6, 50, 58, 7]
abbrev dktJ21_siftDownUsingComparator_0 : List UInt8 := dkwJ21_siftDownUsingComparator_0 ++ dktJ21_siftDownUsingComparator_1
theorem dksJ21_siftDownUsingComparator_0 : cJ21_siftDownUsingComparator.data.toList.drop 0 = dktJ21_siftDownUsingComparator_0 := by decide +kernel
theorem dksJ21_siftDownUsingComparator_1 : cJ21_siftDownUsingComparator.data.toList.drop 24 = dktJ21_siftDownUsingComparator_1 := dk_seg dksJ21_siftDownUsingComparator_0 24 rfl rfl
theorem dksJ21_siftDownUsingComparator_2 : cJ21_siftDownUsingComparator.data.toList.drop 44 = dktJ21_siftDownUsingComparator_2 := dk_seg dksJ21_siftDownUsingComparator_1 20 rfl rfl
theorem dksJ21_siftDownUsingComparator_3 : cJ21_siftDownUsingComparator.data.toList.drop 66 = dktJ21_siftDownUsingComparator_3 := dk_seg dksJ21_siftDownUsingComparator_2 22 rfl rfl
theorem dksJ21_siftDownUsingComparator_4 : cJ21_siftDownUsingComparator.data.toList.drop 90 = dktJ21_siftDownUsingComparator_4 := dk_seg dksJ21_siftDownUsingComparator_3 24 rfl rfl
theorem dJ21_siftDownUsingComparator_0 : decode cJ21_siftDownUsingComparator 0 = .ok (.iload_n 3, 1) := dk_29 (dk_at dksJ21_siftDownUsingComparator_0 0 rfl rfl)
theorem dJ21_siftDownUsingComparator_1 : decode cJ21_siftDownUsingComparator 1 = .ok (.iconst 1, 1) := dk_4 (dk_at dksJ21_siftDownUsingComparator_0 1 rfl rfl)
theorem dJ21_siftDownUsingComparator_2 : decode cJ21_siftDownUsingComparator 2 = .ok (.iushr, 1) := dk_124 (dk_at dksJ21_siftDownUsingComparator_0 2 rfl rfl)
theorem dJ21_siftDownUsingComparator_3 : decode cJ21_siftDownUsingComparator 3 = .ok (.istore 5, 2) := dk_54 5 (dk_at dksJ21_siftDownUsingComparator_0 3 rfl rfl)
theorem dJ21_siftDownUsingComparator_5 : decode cJ21_siftDownUsingComparator 5 = .ok (.iload_n 0, 1) := dk_26 (dk_at dksJ21_siftDownUsingComparator_0 5 rfl rfl)
theorem dJ21_siftDownUsingComparator_6 : decode cJ21_siftDownUsingComparator 6 = .ok (.iload 5, 2) := dk_21 5 (dk_at dksJ21_siftDownUsingComparator_0 6 rfl rfl)
theorem dJ21_siftDownUsingComparator_8 : decode cJ21_siftDownUsingComparator 8 = .ok (.if_icmp .ge 80, 3) := dk_162 0 80 (dk_at dksJ21_siftDownUsingComparator_0 8 rfl rfl)
theorem dJ21_siftDownUsingComparator_11 : decode cJ21_siftDownUsingComparator 11 = .ok (.iload_n 0, 1) := dk_26 (dk_at dksJ21_siftDownUsingComparator_0 11 rfl rfl)
theorem dJ21_siftDownUsingComparator_12 : decode cJ21_siftDownUsingComparator 12 = .ok (.iconst 1, 1) := dk_4 (dk_at dksJ21_siftDownUsingComparator_0 12 rfl rfl)
theorem dJ21_siftDownUsingComparator_13 : decode cJ21_siftDownUsingComparator 13 = .ok (.ishl, 1) := dk_120 (dk_at dksJ21_siftDownUsingComparator_0 13 rfl rfl)
theorem dJ21_siftDownUsingComparator_14 : decode cJ21_siftDownUsingComparator 14 = .ok (.iconst 1, 1) := dk_4 (dk_at dksJ21_siftDownUsingComparator_0 14 rfl rfl)
theorem dJ21_siftDownUsingComparator_15 : decode cJ21_siftDownUsingComparator 15 = .ok (.iadd, 1) := dk_96 (dk_at dksJ21_siftDownUsingComparator_0 15 rfl rfl)
theorem dJ21_siftDownUsingComparator_16 : decode cJ21_siftDownUsingComparator 16 = .ok (.istore 6, 2) := dk_54 6 (dk_at dksJ21_siftDownUsingComparator_0 16 rfl rfl)
theorem dJ21_siftDownUsingComparator_18 : decode cJ21_siftDownUsingComparator 18 = .ok (.aload_n 2, 1) := dk_44 (dk_at dksJ21_siftDownUsingComparator_0 18 rfl rfl)
theorem dJ21_siftDownUsingComparator_19 : decode cJ21_siftDownUsingComparator 19 = .ok (.iload 6, 2) := dk_21 6 (dk_at dksJ21_siftDownUsingComparator_0 19 rfl rfl)
theorem dJ21_siftDownUsingComparator_21 : decode cJ21_siftDownUsingComparator 21 = .ok (.aaload, 1) := dk_50 (dk_at dksJ21_siftDownUsingComparator_0 21 rfl rfl)
theorem dJ21_siftDownUsingComparator_22 : decode cJ21_siftDownUsingComparator 22 = .ok (.astore 7, 2) := dk_58 7 (dk_at dksJ21_siftDownUsingComparator_0 22 rfl rfl)
theorem dJ21_siftDownUsingComparator_24 : decode cJ21_siftDownUsingComparator 24 = .ok (.iload 6, 2) := dk_21 6 (dk_at dksJ21_siftDownUsingComparator_1 0 rfl rfl)
theorem dJ21_siftDownUsingComparator_26 : decode cJ21_siftDownUsingComparator 26 = .ok (.iconst 1, 1) := dk_4 (dk_at dksJ21_siftDownUsingComparator_1 2 rfl rfl)
theorem dJ21_siftDownUsingComparator_27 : decode cJ21_siftDownUsingComparator 27 = .ok (.iadd, 1) := dk_96 (dk_at dksJ21_siftDownUsingComparator_1 3 rfl rfl)
theorem dJ21_siftDownUsingComparator_28 : decode cJ21_siftDownUsingComparator 28 = .ok (.istore 8, 2) := dk_54 8 (dk_at dksJ21_siftDownUsingComparator_1 4 rfl rfl)
theorem dJ21_siftDownUsingComparator_30 : decode cJ21_siftDownUsingComparator 30 = .ok (.iload 8, 2) := dk_21 8 (dk_at dksJ21_siftDownUsingComparator_1 6 rfl rfl)
theorem dJ21_siftDownUsingComparator_32 : decode cJ21_siftDownUsingComparator 32 = .ok (.iload_n 3, 1) := dk_29 (dk_at dksJ21_siftDownUsingComparator_1 8 rfl rfl)
theorem dJ21_siftDownUsingComparator_33 : decode cJ21_siftDownUsingComparator 33 = .ok (.if_icmp .ge 28, 3) := dk_162 0 28 (dk_at dksJ21_siftDownUsingComparator_1 9 rfl rfl)
theorem dJ21_siftDownUsingComparator_36 : decode cJ21_siftDownUsingComparator 36 = .ok (.aload 4, 2) := dk_25 4 (dk_at dksJ21_siftDownUsingComparator_1 12 rfl rfl)
theorem dJ21_siftDownUsingComparator_38 : decode cJ21_siftDownUsingComparator 38 = .ok (.aload 7, 2) := dk_25 7 (dk_at dksJ21_siftDownUsingComparator_1 14 rfl rfl)
theorem dJ21_siftDownUsingComparator_40 : decode cJ21_siftDownUsingComparator 40 = .ok (.aload_n 2, 1) := dk_44 (dk_at dksJ21_siftDownUsingComparator_1 16 rfl rfl)
theorem dJ21_siftDownUsingComparator_41 : decode cJ21_siftDownUsingComparator 41 = .ok (.iload 8, 2) := dk_21 8 (dk_at dksJ21_siftDownUsingComparator_1 17 rfl rfl)
theorem dJ21_siftDownUsingComparator_43 : decode cJ21_siftDownUsingComparator 43 = .ok (.aaload, 1) := dk_50 (dk_at dksJ21_siftDownUsingComparator_1 19 rfl rfl)
theorem dJ21_siftDownUsingComparator_44 : decode cJ21_siftDownUsingComparator 44 = .ok (.invokeinterface 149 3, 5) := by decide +kernel
theorem dJ21_siftDownUsingComparator_49 : decode cJ21_siftDownUsingComparator 49 = .ok (.ifCond .le 12, 3) := dk_158 0 12 (dk_at dksJ21_siftDownUsingComparator_2 5 rfl rfl)
theorem dJ21_siftDownUsingComparator_52 : decode cJ21_siftDownUsingComparator 52 = .ok (.aload_n 2, 1) := dk_44 (dk_at dksJ21_siftDownUsingComparator_2 8 rfl rfl)
theorem dJ21_siftDownUsingComparator_53 : decode cJ21_siftDownUsingComparator 53 = .ok (.iload 8, 2) := dk_21 8 (dk_at dksJ21_siftDownUsingComparator_2 9 rfl rfl)
theorem dJ21_siftDownUsingComparator_55 : decode cJ21_siftDownUsingComparator 55 = .ok (.dup, 1) := dk_89 (dk_at dksJ21_siftDownUsingComparator_2 11 rfl rfl)
theorem dJ21_siftDownUsingComparator_56 : decode cJ21_siftDownUsingComparator 56 = .ok (.istore 6, 2) := dk_54 6 (dk_at dksJ21_siftDownUsingComparator_2 12 rfl rfl)
theorem dJ21_siftDownUsingComparator_58 : decode cJ21_siftDownUsingComparator 58 = .ok (.aaload, 1) := dk_50 (dk_at dksJ21_siftDownUsingComparator_2 14 rfl rfl)
theorem dJ21_siftDownUsingComparator_59 : decode cJ21_siftDownUsingComparator 59 = .ok (.astore 7, 2) := dk_58 7 (dk_at dksJ21_siftDownUsingComparator_2 15 rfl rfl)
theorem dJ21_siftDownUsingComparator_61 : decode cJ21_siftDownUsingComparator 61 = .ok (.aload 4, 2) := dk_25 4 (dk_at dksJ21_siftDownUsingComparator_2 17 rfl rfl)
theorem dJ21_siftDownUsingComparator_63 : decode cJ21_siftDownUsingComparator 63 = .ok (.aload_n 1, 1) := dk_43 (dk_at dksJ21_siftDownUsingComparator_2 19 rfl rfl)
theorem dJ21_siftDownUsingComparator_64 : decode cJ21_siftDownUsingComparator 64 = .ok (.aload 7, 2) := dk_25 7 (dk_at dksJ21_siftDownUsingComparator_2 20 rfl rfl)
theorem dJ21_siftDownUsingComparator_66 : decode cJ21_siftDownUsingComparator 66 = .ok (.invokeinterface 149 3, 5) := by decide +kernel
theorem dJ21_siftDownUsingComparator_71 : decode cJ21_siftDownUsingComparator 71 = .ok (.ifCond .gt 6, 3) := dk_157 0 6 (dk_at dksJ21_siftDownUsingComparator_3 5 rfl rfl)
theorem dJ21_siftDownUsingComparator_74 : decode cJ21_siftDownUsingComparator 74 = .ok (.goto 14, 3) := dk_167 0 14 (dk_at dksJ21_siftDownUsingComparator_3 8 rfl rfl)
theorem dJ21_siftDownUsingComparator_77 : decode cJ21_siftDownUsingComparator 77 = .ok (.aload_n 2, 1) := dk_44 (dk_at dksJ21_siftDownUsingComparator_3 11 rfl rfl)
theorem dJ21_siftDownUsingComparator_78 : decode cJ21_siftDownUsingComparator 78 = .ok (.iload_n 0, 1) := dk_26 (dk_at dksJ21_siftDownUsingComparator_3 12 rfl rfl)
theorem dJ21_siftDownUsingComparator_79 : decode cJ21_siftDownUsingComparator 79 = .ok (.aload 7, 2) := dk_25 7 (dk_at dksJ21_siftDownUsingComparator_3 13 rfl rfl)
theorem dJ21_siftDownUsingComparator_81 : decode cJ21_siftDownUsingComparator 81 = .ok (.aastore, 1) := dk_83 (dk_at dksJ21_siftDownUsingComparator_3 15 rfl rfl)
theorem dJ21_siftDownUsingComparator_82 : decode cJ21_siftDownUsingComparator 82 = .ok (.iload 6, 2) := dk_21 6 (dk_at dksJ21_siftDownUsingComparator_3 16 rfl rfl)
theorem dJ21_siftDownUsingComparator_84 : decode cJ21_siftDownUsingComparator 84 = .ok (.istore_n 0, 1) := dk_59 (dk_at dksJ21_siftDownUsingComparator_3 18 rfl rfl)
theorem dJ21_siftDownUsingComparator_85 : decode cJ21_siftDownUsingComparator 85 = .ok (.goto (-80), 3) := dk_167 255 176 (dk_at dksJ21_siftDownUsingComparator_3 19 rfl rfl)
theorem dJ21_siftDownUsingComparator_88 : decode cJ21_siftDownUsingComparator 88 = .ok (.aload_n 2, 1) := dk_44 (dk_at dksJ21_siftDownUsingComparator_3 22 rfl rfl)
theorem dJ21_siftDownUsingComparator_89 : decode cJ21_siftDownUsingComparator 89 = .ok (.iload_n 0, 1) := dk_26 (dk_at dksJ21_siftDownUsingComparator_3 23 rfl rfl)
theorem dJ21_siftDownUsingComparator_90 : decode cJ21_siftDownUsingComparator 90 = .ok (.aload_n 1, 1) := dk_43 (dk_at dksJ21_siftDownUsingComparator_4 0 rfl rfl)
theorem dJ21_siftDownUsingComparator_91 : decode cJ21_siftDownUsingComparator 91 = .ok (.aastore, 1) := dk_83 (dk_at dksJ21_siftDownUsingComparator_4 1 rfl rfl)
theorem dJ21_siftDownUsingComparator_92 : decode cJ21_siftDownUsingComparator 92 = .ok (.return_, 1) := dk_177 (dk_at dksJ21_siftDownUsingComparator_4 2 rfl rfl)
theorem q83 : (Jvm.Cond.initialized "java/util/PriorityQueue") ∈ lw_all := lw_g (lw_at lw_m1 26 rfl) rfl
theorem q804 : (Jvm.Cond.instantiable "java/util/PriorityQueue" (4 : Nat)) ∈ lw_all := lw_g (lw_at lw_m4 27 rfl) rfl
theorem q813 : (Jvm.Cond.instanceMethod ({ cls := "java/util/PriorityQueue", name := "<init>", desc := "(Ljava/util/Comparator;)V" } : Jvm.MethodName)) ∈ lw_all := lw_g (lw_at lw_m4 36 rfl) rfl
theorem q814 : (Jvm.Cond.code ({ cls := "java/util/PriorityQueue", name := "<init>", desc := "(Ljava/util/Comparator;)V" } : Jvm.MethodName) prog_48_method_3_code (2 : Nat) (Option.none : Option Jvm.ClassFile.FieldType)) ∈ lw_all := lw_g (lw_at lw_m4 37 rfl) rfl
theorem q815 : (Jvm.Cond.methodLink "java/util/PriorityQueue" (3 : Nat) ({ cls := "java/util/PriorityQueue", name := "<init>", desc := "(ILjava/util/Comparator;)V" } : Jvm.MethodName)) ∈ lw_all := lw_g (lw_at lw_m4 38 rfl) rfl
theorem q816 : (Jvm.Cond.instanceMethod ({ cls := "java/util/PriorityQueue", name := "<init>", desc := "(ILjava/util/Comparator;)V" } : Jvm.MethodName)) ∈ lw_all := lw_g (lw_at lw_m4 39 rfl) rfl
theorem q817 : (Jvm.Cond.code ({ cls := "java/util/PriorityQueue", name := "<init>", desc := "(ILjava/util/Comparator;)V" } : Jvm.MethodName) prog_48_method_4_code (3 : Nat) (Option.none : Option Jvm.ClassFile.FieldType)) ∈ lw_all := lw_g (lw_at lw_m4 40 rfl) rfl
theorem q818 : (Jvm.Cond.methodLink "java/util/PriorityQueue" (7 : Nat) ({ cls := "java/util/AbstractQueue", name := "<init>", desc := "()V" } : Jvm.MethodName)) ∈ lw_all := lw_g (lw_at lw_m4 41 rfl) rfl
theorem q822 : (Jvm.Cond.classLink "java/util/PriorityQueue" (12 : Nat) "java/lang/IllegalArgumentException") ∈ lw_all := lw_g (lw_at lw_m4 45 rfl) rfl
theorem q823 : (Jvm.Cond.methodLink "java/util/PriorityQueue" (14 : Nat) ({ cls := "java/lang/IllegalArgumentException", name := "<init>", desc := "()V" } : Jvm.MethodName)) ∈ lw_all := lw_g (lw_at lw_m4 46 rfl) rfl
theorem q824 : (Jvm.Cond.classLink "java/util/PriorityQueue" (15 : Nat) "java/lang/Object") ∈ lw_all := lw_g (lw_at lw_m4 47 rfl) rfl
theorem q826 : (Jvm.Cond.fieldLink "java/util/PriorityQueue" (17 : Nat) "java/util/PriorityQueue" "queue" "[Ljava/lang/Object;") ∈ lw_all := lw_g (lw_at lw_m4 49 rfl) rfl
theorem q827 : (Jvm.Cond.fieldLink "java/util/PriorityQueue" (58 : Nat) "java/util/PriorityQueue" "size" "I") ∈ lw_all := lw_g (lw_at lw_m4 50 rfl) rfl
theorem q828 : (Jvm.Cond.fieldLink "java/util/PriorityQueue" (21 : Nat) "java/util/PriorityQueue" "comparator" "Ljava/util/Comparator;") ∈ lw_all := lw_g (lw_at lw_m4 51 rfl) rfl
theorem q829 : (Jvm.Cond.fieldLink "java/util/PriorityQueue" (93 : Nat) "java/util/PriorityQueue" "modCount" "I") ∈ lw_all := lw_g (lw_at lw_m4 52 rfl) rfl
theorem q830 : (Jvm.Cond.lays "java/util/PriorityQueue" "java/util/PriorityQueue" "queue" "[Ljava/lang/Object;") ∈ lw_all := lw_g (lw_at lw_m4 53 rfl) rfl
theorem q831 : (Jvm.Cond.soleField "java/util/PriorityQueue" "queue") ∈ lw_all := lw_g (lw_at lw_m4 54 rfl) rfl
theorem q832 : (Jvm.Cond.lays "java/util/PriorityQueue" "java/util/PriorityQueue" "size" "I") ∈ lw_all := lw_g (lw_at lw_m4 55 rfl) rfl
theorem q833 : (Jvm.Cond.soleField "java/util/PriorityQueue" "size") ∈ lw_all := lw_g (lw_at lw_m4 56 rfl) rfl
theorem q834 : (Jvm.Cond.laysFinal "java/util/PriorityQueue" "java/util/PriorityQueue" "comparator" "Ljava/util/Comparator;") ∈ lw_all := lw_g (lw_at lw_m4 57 rfl) rfl
theorem q835 : (Jvm.Cond.soleField "java/util/PriorityQueue" "comparator") ∈ lw_all := lw_g (lw_at lw_m4 58 rfl) rfl
theorem q836 : (Jvm.Cond.lays "java/util/PriorityQueue" "java/util/PriorityQueue" "modCount" "I") ∈ lw_all := lw_g (lw_at lw_m4 59 rfl) rfl
theorem q837 : (Jvm.Cond.soleField "java/util/PriorityQueue" "modCount") ∈ lw_all := lw_g (lw_at lw_m4 60 rfl) rfl
theorem q838 : (Jvm.Cond.superclass "java/util/PriorityQueue" "java/util/AbstractQueue") ∈ lw_all := lw_g (lw_at lw_m4 61 rfl) rfl
theorem q865 : (Jvm.Cond.instanceMethod ({ cls := "java/util/PriorityQueue", name := "add", desc := "(Ljava/lang/Object;)Z" } : Jvm.MethodName)) ∈ lw_all := lw_g (lw_at lw_m4 88 rfl) rfl
theorem q866 : (Jvm.Cond.selects "java/util/PriorityQueue" ({ cls := "java/util/PriorityQueue", name := "add", desc := "(Ljava/lang/Object;)Z" } : Jvm.MethodName) ({ cls := "java/util/PriorityQueue", name := "add", desc := "(Ljava/lang/Object;)Z" } : Jvm.MethodName)) ∈ lw_all := lw_g (lw_at lw_m4 89 rfl) rfl
theorem q867 : (Jvm.Cond.code ({ cls := "java/util/PriorityQueue", name := "add", desc := "(Ljava/lang/Object;)Z" } : Jvm.MethodName) prog_48_method_13_code (2 : Nat) (Option.some Jvm.ClassFile.FieldType.boolean)) ∈ lw_all := lw_g (lw_at lw_m4 90 rfl) rfl
theorem q868 : (Jvm.Cond.methodLink "java/util/PriorityQueue" (89 : Nat) ({ cls := "java/util/PriorityQueue", name := "offer", desc := "(Ljava/lang/Object;)Z" } : Jvm.MethodName)) ∈ lw_all := lw_g (lw_at lw_m4 91 rfl) rfl
theorem q869 : (Jvm.Cond.instanceMethod ({ cls := "java/util/PriorityQueue", name := "offer", desc := "(Ljava/lang/Object;)Z" } : Jvm.MethodName)) ∈ lw_all := lw_g (lw_at lw_m4 92 rfl) rfl
theorem q870 : (Jvm.Cond.selects "java/util/PriorityQueue" ({ cls := "java/util/PriorityQueue", name := "offer", desc := "(Ljava/lang/Object;)Z" } : Jvm.MethodName) ({ cls := "java/util/PriorityQueue", name := "offer", desc := "(Ljava/lang/Object;)Z" } : Jvm.MethodName)) ∈ lw_all := lw_g (lw_at lw_m4 93 rfl) rfl
theorem q871 : (Jvm.Cond.code ({ cls := "java/util/PriorityQueue", name := "offer", desc := "(Ljava/lang/Object;)Z" } : Jvm.MethodName) prog_48_method_14_code (3 : Nat) (Option.some Jvm.ClassFile.FieldType.boolean)) ∈ lw_all := lw_g (lw_at lw_m4 94 rfl) rfl
theorem q872 : (Jvm.Cond.methodLink "java/util/PriorityQueue" (96 : Nat) ({ cls := "java/util/PriorityQueue", name := "grow", desc := "(I)V" } : Jvm.MethodName)) ∈ lw_all := lw_g (lw_at lw_m4 95 rfl) rfl
theorem q873 : (Jvm.Cond.privateMethod ({ cls := "java/util/PriorityQueue", name := "grow", desc := "(I)V" } : Jvm.MethodName)) ∈ lw_tbl := lw_at lw_m4 96 rfl
theorem q874 : (Jvm.Cond.instanceMethod ({ cls := "java/util/PriorityQueue", name := "grow", desc := "(I)V" } : Jvm.MethodName)) ∈ lw_all := lw_g (lw_at lw_m4 97 rfl) rfl
theorem q875 : (Jvm.Cond.code ({ cls := "java/util/PriorityQueue", name := "grow", desc := "(I)V" } : Jvm.MethodName) prog_48_method_12_code (4 : Nat) (Option.none : Option Jvm.ClassFile.FieldType)) ∈ lw_all := lw_g (lw_at lw_m4 98 rfl) rfl
theorem q876 : (Jvm.Cond.methodLink "java/util/PriorityQueue" (80 : Nat) ({ cls := "jdk/internal/util/ArraysSupport", name := "newLength", desc := "(III)I" } : Jvm.MethodName)) ∈ lw_all := lw_g (lw_at lw_m4 99 rfl) rfl
theorem q886 : (Jvm.Cond.methodLink "java/util/PriorityQueue" (86 : Nat) ({ cls := "java/util/Arrays", name := "copyOf", desc := "([Ljava/lang/Object;I)[Ljava/lang/Object;" } : Jvm.MethodName)) ∈ lw_all := lw_g (lw_at lw_m4 109 rfl) rfl
theorem q910 : (Jvm.Cond.selects "java/util/PriorityQueue" ({ cls := "java/lang/Object", name := "getClass", desc := "()Ljava/lang/Class;" } : Jvm.MethodName) ({ cls := "java/lang/Object", name := "getClass", desc := "()Ljava/lang/Class;" } : Jvm.MethodName)) ∈ lw_all := lw_g (lw_at lw_m4 133 rfl) rfl
theorem q924 : (Jvm.Cond.methodLink "java/util/PriorityQueue" (100 : Nat) ({ cls := "java/util/PriorityQueue", name := "siftUp", desc := "(ILjava/lang/Object;)V" } : Jvm.MethodName)) ∈ lw_all := lw_g (lw_at lw_m4 147 rfl) rfl
theorem q925 : (Jvm.Cond.privateMethod ({ cls := "java/util/PriorityQueue", name := "siftUp", desc := "(ILjava/lang/Object;)V" } : Jvm.MethodName)) ∈ lw_tbl := lw_at lw_m4 148 rfl
theorem q926 : (Jvm.Cond.instanceMethod ({ cls := "java/util/PriorityQueue", name := "siftUp", desc := "(ILjava/lang/Object;)V" } : Jvm.MethodName)) ∈ lw_all := lw_g (lw_at lw_m4 149 rfl) rfl
theorem q927 : (Jvm.Cond.code ({ cls := "java/util/PriorityQueue", name := "siftUp", desc := "(ILjava/lang/Object;)V" } : Jvm.MethodName) prog_48_method_27_code (3 : Nat) (Option.none : Option Jvm.ClassFile.FieldType)) ∈ lw_all := lw_g (lw_at lw_m4 150 rfl) rfl
theorem q928 : (Jvm.Cond.methodLink "java/util/PriorityQueue" (136 : Nat) ({ cls := "java/util/PriorityQueue", name := "siftUpUsingComparator", desc := "(ILjava/lang/Object;[Ljava/lang/Object;Ljava/util/Comparator;)V" } : Jvm.MethodName)) ∈ lw_all := lw_g (lw_at lw_m4 151 rfl) rfl
theorem q929 : (Jvm.Cond.static ({ cls := "java/util/PriorityQueue", name := "siftUpUsingComparator", desc := "(ILjava/lang/Object;[Ljava/lang/Object;Ljava/util/Comparator;)V" } : Jvm.MethodName)) ∈ lw_all := lw_g (lw_at lw_m4 152 rfl) rfl
theorem q930 : (Jvm.Cond.code ({ cls := "java/util/PriorityQueue", name := "siftUpUsingComparator", desc := "(ILjava/lang/Object;[Ljava/lang/Object;Ljava/util/Comparator;)V" } : Jvm.MethodName) prog_48_method_29_code (6 : Nat) (Option.none : Option Jvm.ClassFile.FieldType)) ∈ lw_all := lw_g (lw_at lw_m4 153 rfl) rfl
theorem q931 : (Jvm.Cond.interfaceEntry "java/util/PriorityQueue" (149 : Nat)) ∈ lw_tbl := lw_at lw_m4 154 rfl
theorem q932 : (Jvm.Cond.methodLink "java/util/PriorityQueue" (149 : Nat) ({ cls := "java/util/Comparator", name := "compare", desc := "(Ljava/lang/Object;Ljava/lang/Object;)I" } : Jvm.MethodName)) ∈ lw_all := lw_g (lw_at lw_m4 155 rfl) rfl
theorem q933 : (Jvm.Cond.methodLink "java/util/PriorityQueue" (140 : Nat) ({ cls := "java/util/PriorityQueue", name := "siftUpComparable", desc := "(ILjava/lang/Object;[Ljava/lang/Object;)V" } : Jvm.MethodName)) ∈ lw_all := lw_g (lw_at lw_m4 156 rfl) rfl
theorem q934 : (Jvm.Cond.static ({ cls := "java/util/PriorityQueue", name := "siftUpComparable", desc := "(ILjava/lang/Object;[Ljava/lang/Object;)V" } : Jvm.MethodName)) ∈ lw_all := lw_g (lw_at lw_m4 157 rfl) rfl
theorem q935 : (Jvm.Cond.code ({ cls := "java/util/PriorityQueue", name := "siftUpComparable", desc := "(ILjava/lang/Object;[Ljava/lang/Object;)V" } : Jvm.MethodName) prog_48_method_28_code (6 : Nat) (Option.none : Option Jvm.ClassFile.FieldType)) ∈ lw_all := lw_g (lw_at lw_m4 158 rfl) rfl
theorem q936 : (Jvm.Cond.classLink "java/util/PriorityQueue" (144 : Nat) "java/lang/Comparable") ∈ lw_all := lw_g (lw_at lw_m4 159 rfl) rfl
theorem q937 : (Jvm.Cond.interfaceEntry "java/util/PriorityQueue" (146 : Nat)) ∈ lw_tbl := lw_at lw_m4 160 rfl
theorem q938 : (Jvm.Cond.methodLink "java/util/PriorityQueue" (146 : Nat) ({ cls := "java/lang/Comparable", name := "compareTo", desc := "(Ljava/lang/Object;)I" } : Jvm.MethodName)) ∈ lw_all := lw_g (lw_at lw_m4 161 rfl) rfl
theorem q940 : (Jvm.Cond.sameMethod "java/util/PriorityQueue" "java/util/AbstractCollection" "isEmpty" "()Z") ∈ lw_all := lw_g (lw_at lw_m4 163 rfl) rfl
theorem q942 : (Jvm.Cond.selects "java/util/PriorityQueue" ({ cls := "java/util/PriorityQueue", name := "isEmpty", desc := "()Z" } : Jvm.MethodName) ({ cls := "java/util/AbstractCollection", name := "isEmpty", desc := "()Z" } : Jvm.MethodName)) ∈ lw_all := lw_g (lw_at lw_m4 165 rfl) rfl
theorem q951 : (Jvm.Cond.selects "java/util/PriorityQueue" ({ cls := "java/util/AbstractCollection", name := "size", desc := "()I" } : Jvm.MethodName) ({ cls := "java/util/PriorityQueue", name := "size", desc := "()I" } : Jvm.MethodName)) ∈ lw_all := lw_g (lw_at lw_m4 174 rfl) rfl
theorem q952 : (Jvm.Cond.instanceMethod ({ cls := "java/util/PriorityQueue", name := "size", desc := "()I" } : Jvm.MethodName)) ∈ lw_all := lw_g (lw_at lw_m4 175 rfl) rfl
theorem q953 : (Jvm.Cond.code ({ cls := "java/util/PriorityQueue", name := "size", desc := "()I" } : Jvm.MethodName) prog_48_method_23_code (1 : Nat) (Option.some Jvm.ClassFile.FieldType.int)) ∈ lw_all := lw_g (lw_at lw_m4 176 rfl) rfl
theorem q962 : (Jvm.Cond.instanceMethod ({ cls := "java/util/PriorityQueue", name := "poll", desc := "()Ljava/lang/Object;" } : Jvm.MethodName)) ∈ lw_all := lw_g (lw_at lw_m4 185 rfl) rfl
theorem q963 : (Jvm.Cond.selects "java/util/PriorityQueue" ({ cls := "java/util/PriorityQueue", name := "poll", desc := "()Ljava/lang/Object;" } : Jvm.MethodName) ({ cls := "java/util/PriorityQueue", name := "poll", desc := "()Ljava/lang/Object;" } : Jvm.MethodName)) ∈ lw_all := lw_g (lw_at lw_m4 186 rfl) rfl
theorem q964 : (Jvm.Cond.code ({ cls := "java/util/PriorityQueue", name := "poll", desc := "()Ljava/lang/Object;" } : Jvm.MethodName) prog_48_method_25_code (6 : Nat) (Option.some (Jvm.ClassFile.FieldType.object "java/lang/Object"))) ∈ lw_all := lw_g (lw_at lw_m4 187 rfl) rfl
theorem q965 : (Jvm.Cond.methodLink "java/util/PriorityQueue" (125 : Nat) ({ cls := "java/util/PriorityQueue", name := "siftDownComparable", desc := "(ILjava/lang/Object;[Ljava/lang/Object;I)V" } : Jvm.MethodName)) ∈ lw_all := lw_g (lw_at lw_m4 188 rfl) rfl
theorem q966 : (Jvm.Cond.static ({ cls := "java/util/PriorityQueue", name := "siftDownComparable", desc := "(ILjava/lang/Object;[Ljava/lang/Object;I)V" } : Jvm.MethodName)) ∈ lw_all := lw_g (lw_at lw_m4 189 rfl) rfl
theorem q967 : (Jvm.Cond.code ({ cls := "java/util/PriorityQueue", name := "siftDownComparable", desc := "(ILjava/lang/Object;[Ljava/lang/Object;I)V" } : Jvm.MethodName) prog_48_method_31_code (9 : Nat) (Option.none : Option Jvm.ClassFile.FieldType)) ∈ lw_all := lw_g (lw_at lw_m4 190 rfl) rfl
theorem q968 : (Jvm.Cond.methodLink "java/util/PriorityQueue" (129 : Nat) ({ cls := "java/util/PriorityQueue", name := "siftDownUsingComparator", desc := "(ILjava/lang/Object;[Ljava/lang/Object;ILjava/util/Comparator;)V" } : Jvm.MethodName)) ∈ lw_all := lw_g (lw_at lw_m4 191 rfl) rfl
theorem q969 : (Jvm.Cond.static ({ cls := "java/util/PriorityQueue", name := "siftDownUsingComparator", desc := "(ILjava/lang/Object;[Ljava/lang/Object;ILjava/util/Comparator;)V" } : Jvm.MethodName)) ∈ lw_all := lw_g (lw_at lw_m4 192 rfl) rfl
theorem q970 : (Jvm.Cond.code ({ cls := "java/util/PriorityQueue", name := "siftDownUsingComparator", desc := "(ILjava/lang/Object;[Ljava/lang/Object;ILjava/util/Comparator;)V" } : Jvm.MethodName) prog_48_method_32_code (9 : Nat) (Option.none : Option Jvm.ClassFile.FieldType)) ∈ lw_all := lw_g (lw_at lw_m4 193 rfl) rfl
theorem q1711 : (Jvm.Cond.castable "java/util/PriorityQueue" "java/lang/Object") ∈ lw_tbl := lw_at lw_m7 214 rfl
theorem in_J21 : ∀ w ∈ wsJ210, w ∈ lw_all := lw_in wsJ210 [830, 832, 834, 836] (by decide +kernel) (by decide +kernel)
/-! jdk/internal/util/ArraysSupport -/
set_option maxRecDepth 100000
def RJ22 : String := "jdk/internal/util/ArraysSupport"
abbrev cJ22_newLength : ByteArray := prog_58_method_27_code
def yJ22_newLength : MethodName := ⟨RJ22, "newLength", "(III)I"⟩
def dkwJ22_newLength_1 : List UInt8 := [184, 0, 201, 172]
abbrev dktJ22_newLength_1 : List UInt8 := dkwJ22_newLength_1 ++ []
def dkwJ22_newLength_0 : List UInt8 := [26, 27, 28, 184, 0, 194, 96, 62, 3, 29, 162, 0, 11, 29, 18, 200, 163, 0, 5, 29, 172, 26, 27]
abbrev dktJ22_newLength_0 : List UInt8 := dkwJ22_newLength_0 ++ dktJ22_newLength_1
theorem dksJ22_newLength_0 : cJ22_newLength.data.toList.drop 0 = dktJ22_newLength_0 := by decide +kernel
theorem dksJ22_newLength_1 : cJ22_newLength.data.toList.drop 23 = dktJ22_newLength_1 := dk_seg dksJ22_newLength_0 23 rfl rfl
theorem dJ22_newLength_0 : decode cJ22_newLength 0 = .ok (.iload_n 0, 1) := dk_26 (dk_at dksJ22_newLength_0 0 rfl rfl)
theorem dJ22_newLength_1 : decode cJ22_newLength 1 = .ok (.iload_n 1, 1) := dk_27 (dk_at dksJ22_newLength_0 1 rfl rfl)
theorem dJ22_newLength_2 : decode cJ22_newLength 2 = .ok (.iload_n 2, 1) := dk_28 (dk_at dksJ22_newLength_0 2 rfl rfl)
theorem dJ22_newLength_3 : decode cJ22_newLength 3 = .ok (.invokestatic 194, 3) := dk_184 0 194 (dk_at dksJ22_newLength_0 3 rfl rfl)
theorem dJ22_newLength_6 : decode cJ22_newLength 6 = .ok (.iadd, 1) := dk_96 (dk_at dksJ22_newLength_0 6 rfl rfl)
theorem dJ22_newLength_7 : decode cJ22_newLength 7 = .ok (.istore_n 3, 1) := dk_62 (dk_at dksJ22_newLength_0 7 rfl rfl)
theorem dJ22_newLength_8 : decode cJ22_newLength 8 = .ok (.iconst 0, 1) := dk_3 (dk_at dksJ22_newLength_0 8 rfl rfl)
theorem dJ22_newLength_9 : decode cJ22_newLength 9 = .ok (.iload_n 3, 1) := dk_29 (dk_at dksJ22_newLength_0 9 rfl rfl)
theorem dJ22_newLength_10 : decode cJ22_newLength 10 = .ok (.if_icmp .ge 11, 3) := dk_162 0 11 (dk_at dksJ22_newLength_0 10 rfl rfl)
theorem dJ22_newLength_13 : decode cJ22_newLength 13 = .ok (.iload_n 3, 1) := dk_29 (dk_at dksJ22_newLength_0 13 rfl rfl)
theorem dJ22_newLength_14 : decode cJ22_newLength 14 = .ok (.ldc 200, 2) := dk_18 200 (dk_at dksJ22_newLength_0 14 rfl rfl)
theorem dJ22_newLength_16 : decode cJ22_newLength 16 = .ok (.if_icmp .gt 5, 3) := dk_163 0 5 (dk_at dksJ22_newLength_0 16 rfl rfl)
theorem dJ22_newLength_19 : decode cJ22_newLength 19 = .ok (.iload_n 3, 1) := dk_29 (dk_at dksJ22_newLength_0 19 rfl rfl)
theorem dJ22_newLength_20 : decode cJ22_newLength 20 = .ok (.ireturn, 1) := dk_172 (dk_at dksJ22_newLength_0 20 rfl rfl)
theorem dJ22_newLength_21 : decode cJ22_newLength 21 = .ok (.iload_n 0, 1) := dk_26 (dk_at dksJ22_newLength_0 21 rfl rfl)
theorem dJ22_newLength_22 : decode cJ22_newLength 22 = .ok (.iload_n 1, 1) := dk_27 (dk_at dksJ22_newLength_0 22 rfl rfl)
theorem dJ22_newLength_23 : decode cJ22_newLength 23 = .ok (.invokestatic 201, 3) := dk_184 0 201 (dk_at dksJ22_newLength_1 0 rfl rfl)
theorem dJ22_newLength_26 : decode cJ22_newLength 26 = .ok (.ireturn, 1) := dk_172 (dk_at dksJ22_newLength_1 3 rfl rfl)
abbrev cJ22_hugeLength : ByteArray := prog_58_method_28_code
def yJ22_hugeLength : MethodName := ⟨RJ22, "hugeLength", "(II)I"⟩
def dkwJ22_hugeLength_2 : List UInt8 := [191, 28, 18, 200, 163, 0, 6, 18, 200, 172, 28, 172]
abbrev dktJ22_hugeLength_2 : List UInt8 := dkwJ22_hugeLength_2 ++ []
def dkwJ22_hugeLength_1 : List UInt8 := [26, 182, 0, 98, 18, 208, 182, 0, 94, 27, 182, 0, 98, 18, 210, 182, 0, 94, 182, 0, 101, 183, 0, 212]
abbrev dktJ22_hugeLength_1 : List UInt8 := dkwJ22_hugeLength_1 ++ dktJ22_hugeLength_2
def dkwJ22_hugeLength_0 : List UInt8 := [26, 27, 96, 61, 28, 156, 0, 44, 187, 0, 204, 89, 187, 0, 89, 89, 183, 0, 91, 18, 206, 182, 0, 94]
abbrev dktJ22_hugeLength_0 : List UInt8 := dkwJ22_hugeLength_0 ++ dktJ22_hugeLength_1
theorem dksJ22_hugeLength_0 : cJ22_hugeLength.data.toList.drop 0 = dktJ22_hugeLength_0 := by decide +kernel
theorem dksJ22_hugeLength_1 : cJ22_hugeLength.data.toList.drop 24 = dktJ22_hugeLength_1 := dk_seg dksJ22_hugeLength_0 24 rfl rfl
theorem dksJ22_hugeLength_2 : cJ22_hugeLength.data.toList.drop 48 = dktJ22_hugeLength_2 := dk_seg dksJ22_hugeLength_1 24 rfl rfl
theorem dJ22_hugeLength_0 : decode cJ22_hugeLength 0 = .ok (.iload_n 0, 1) := dk_26 (dk_at dksJ22_hugeLength_0 0 rfl rfl)
theorem dJ22_hugeLength_1 : decode cJ22_hugeLength 1 = .ok (.iload_n 1, 1) := dk_27 (dk_at dksJ22_hugeLength_0 1 rfl rfl)
theorem dJ22_hugeLength_2 : decode cJ22_hugeLength 2 = .ok (.iadd, 1) := dk_96 (dk_at dksJ22_hugeLength_0 2 rfl rfl)
theorem dJ22_hugeLength_3 : decode cJ22_hugeLength 3 = .ok (.istore_n 2, 1) := dk_61 (dk_at dksJ22_hugeLength_0 3 rfl rfl)
theorem dJ22_hugeLength_4 : decode cJ22_hugeLength 4 = .ok (.iload_n 2, 1) := dk_28 (dk_at dksJ22_hugeLength_0 4 rfl rfl)
theorem dJ22_hugeLength_5 : decode cJ22_hugeLength 5 = .ok (.ifCond .ge 44, 3) := dk_156 0 44 (dk_at dksJ22_hugeLength_0 5 rfl rfl)
theorem dJ22_hugeLength_8 : decode cJ22_hugeLength 8 = .ok (.new 204, 3) := dk_187 0 204 (dk_at dksJ22_hugeLength_0 8 rfl rfl)
theorem dJ22_hugeLength_11 : decode cJ22_hugeLength 11 = .ok (.dup, 1) := dk_89 (dk_at dksJ22_hugeLength_0 11 rfl rfl)
theorem dJ22_hugeLength_12 : decode cJ22_hugeLength 12 = .ok (.new 89, 3) := dk_187 0 89 (dk_at dksJ22_hugeLength_0 12 rfl rfl)
theorem dJ22_hugeLength_15 : decode cJ22_hugeLength 15 = .ok (.dup, 1) := dk_89 (dk_at dksJ22_hugeLength_0 15 rfl rfl)
theorem dJ22_hugeLength_16 : decode cJ22_hugeLength 16 = .ok (.invokespecial 91, 3) := dk_183 0 91 (dk_at dksJ22_hugeLength_0 16 rfl rfl)
theorem dJ22_hugeLength_19 : decode cJ22_hugeLength 19 = .ok (.ldc 206, 2) := dk_18 206 (dk_at dksJ22_hugeLength_0 19 rfl rfl)
theorem dJ22_hugeLength_21 : decode cJ22_hugeLength 21 = .ok (.invokevirtual 94, 3) := dk_182 0 94 (dk_at dksJ22_hugeLength_0 21 rfl rfl)
theorem dJ22_hugeLength_24 : decode cJ22_hugeLength 24 = .ok (.iload_n 0, 1) := dk_26 (dk_at dksJ22_hugeLength_1 0 rfl rfl)
theorem dJ22_hugeLength_25 : decode cJ22_hugeLength 25 = .ok (.invokevirtual 98, 3) := dk_182 0 98 (dk_at dksJ22_hugeLength_1 1 rfl rfl)
theorem dJ22_hugeLength_28 : decode cJ22_hugeLength 28 = .ok (.ldc 208, 2) := dk_18 208 (dk_at dksJ22_hugeLength_1 4 rfl rfl)
theorem dJ22_hugeLength_30 : decode cJ22_hugeLength 30 = .ok (.invokevirtual 94, 3) := dk_182 0 94 (dk_at dksJ22_hugeLength_1 6 rfl rfl)
theorem dJ22_hugeLength_33 : decode cJ22_hugeLength 33 = .ok (.iload_n 1, 1) := dk_27 (dk_at dksJ22_hugeLength_1 9 rfl rfl)
theorem dJ22_hugeLength_34 : decode cJ22_hugeLength 34 = .ok (.invokevirtual 98, 3) := dk_182 0 98 (dk_at dksJ22_hugeLength_1 10 rfl rfl)
theorem dJ22_hugeLength_37 : decode cJ22_hugeLength 37 = .ok (.ldc 210, 2) := dk_18 210 (dk_at dksJ22_hugeLength_1 13 rfl rfl)
theorem dJ22_hugeLength_39 : decode cJ22_hugeLength 39 = .ok (.invokevirtual 94, 3) := dk_182 0 94 (dk_at dksJ22_hugeLength_1 15 rfl rfl)
theorem dJ22_hugeLength_42 : decode cJ22_hugeLength 42 = .ok (.invokevirtual 101, 3) := dk_182 0 101 (dk_at dksJ22_hugeLength_1 18 rfl rfl)
theorem dJ22_hugeLength_45 : decode cJ22_hugeLength 45 = .ok (.invokespecial 212, 3) := dk_183 0 212 (dk_at dksJ22_hugeLength_1 21 rfl rfl)
theorem dJ22_hugeLength_48 : decode cJ22_hugeLength 48 = .ok (.athrow, 1) := dk_191 (dk_at dksJ22_hugeLength_2 0 rfl rfl)
theorem dJ22_hugeLength_49 : decode cJ22_hugeLength 49 = .ok (.iload_n 2, 1) := dk_28 (dk_at dksJ22_hugeLength_2 1 rfl rfl)
theorem dJ22_hugeLength_50 : decode cJ22_hugeLength 50 = .ok (.ldc 200, 2) := dk_18 200 (dk_at dksJ22_hugeLength_2 2 rfl rfl)
theorem dJ22_hugeLength_52 : decode cJ22_hugeLength 52 = .ok (.if_icmp .gt 6, 3) := dk_163 0 6 (dk_at dksJ22_hugeLength_2 4 rfl rfl)
theorem dJ22_hugeLength_55 : decode cJ22_hugeLength 55 = .ok (.ldc 200, 2) := dk_18 200 (dk_at dksJ22_hugeLength_2 7 rfl rfl)
theorem dJ22_hugeLength_57 : decode cJ22_hugeLength 57 = .ok (.ireturn, 1) := dk_172 (dk_at dksJ22_hugeLength_2 9 rfl rfl)
theorem dJ22_hugeLength_58 : decode cJ22_hugeLength 58 = .ok (.iload_n 2, 1) := dk_28 (dk_at dksJ22_hugeLength_2 10 rfl rfl)
theorem dJ22_hugeLength_59 : decode cJ22_hugeLength 59 = .ok (.ireturn, 1) := dk_172 (dk_at dksJ22_hugeLength_2 11 rfl rfl)
theorem q86 : (Jvm.Cond.initialized "jdk/internal/util/ArraysSupport") ∈ lw_all := lw_g (lw_at lw_m1 29 rfl) rfl
theorem q877 : (Jvm.Cond.static ({ cls := "jdk/internal/util/ArraysSupport", name := "newLength", desc := "(III)I" } : Jvm.MethodName)) ∈ lw_all := lw_g (lw_at lw_m4 100 rfl) rfl
theorem q878 : (Jvm.Cond.code ({ cls := "jdk/internal/util/ArraysSupport", name := "newLength", desc := "(III)I" } : Jvm.MethodName) prog_58_method_27_code (4 : Nat) (Option.some Jvm.ClassFile.FieldType.int)) ∈ lw_all := lw_g (lw_at lw_m4 101 rfl) rfl
theorem q879 : (Jvm.Cond.methodLink "jdk/internal/util/ArraysSupport" (194 : Nat) ({ cls := "java/lang/Math", name := "max", desc := "(II)I" } : Jvm.MethodName)) ∈ lw_all := lw_g (lw_at lw_m4 102 rfl) rfl
theorem q882 : (Jvm.Cond.constant "jdk/internal/util/ArraysSupport" (200 : Nat) (2147483639 : Int32)) ∈ lw_all := lw_g (lw_at lw_m4 105 rfl) rfl
theorem q883 : (Jvm.Cond.methodLink "jdk/internal/util/ArraysSupport" (201 : Nat) ({ cls := "jdk/internal/util/ArraysSupport", name := "hugeLength", desc := "(II)I" } : Jvm.MethodName)) ∈ lw_all := lw_g (lw_at lw_m4 106 rfl) rfl
theorem q884 : (Jvm.Cond.static ({ cls := "jdk/internal/util/ArraysSupport", name := "hugeLength", desc := "(II)I" } : Jvm.MethodName)) ∈ lw_all := lw_g (lw_at lw_m4 107 rfl) rfl
theorem q885 : (Jvm.Cond.code ({ cls := "jdk/internal/util/ArraysSupport", name := "hugeLength", desc := "(II)I" } : Jvm.MethodName) prog_58_method_28_code (3 : Nat) (Option.some Jvm.ClassFile.FieldType.int)) ∈ lw_all := lw_g (lw_at lw_m4 108 rfl) rfl
/-! java/util/Arrays -/
set_option maxRecDepth 100000
def RJ23 : String := "java/util/Arrays"
abbrev cJ23_copyOf : ByteArray := prog_38_method_119_code
def yJ23_copyOf : MethodName := ⟨RJ23, "copyOf", "([Ljava/lang/Object;I)[Ljava/lang/Object;"⟩
def dkwJ23_copyOf_0 : List UInt8 := [42, 27, 42, 182, 0, 86, 184, 1, 44, 176]
abbrev dktJ23_copyOf_0 : List UInt8 := dkwJ23_copyOf_0 ++ []
theorem dksJ23_copyOf_0 : cJ23_copyOf.data.toList.drop 0 = dktJ23_copyOf_0 := by decide +kernel
theorem dJ23_copyOf_0 : decode cJ23_copyOf 0 = .ok (.aload_n 0, 1) := dk_42 (dk_at dksJ23_copyOf_0 0 rfl rfl)
theorem dJ23_copyOf_1 : decode cJ23_copyOf 1 = .ok (.iload_n 1, 1) := dk_27 (dk_at dksJ23_copyOf_0 1 rfl rfl)
theorem dJ23_copyOf_2 : decode cJ23_copyOf 2 = .ok (.aload_n 0, 1) := dk_42 (dk_at dksJ23_copyOf_0 2 rfl rfl)
theorem dJ23_copyOf_3 : decode cJ23_copyOf 3 = .ok (.invokevirtual 86, 3) := dk_182 0 86 (dk_at dksJ23_copyOf_0 3 rfl rfl)
theorem dJ23_copyOf_6 : decode cJ23_copyOf 6 = .ok (.invokestatic 300, 3) := dk_184 1 44 (dk_at dksJ23_copyOf_0 6 rfl rfl)
theorem dJ23_copyOf_9 : decode cJ23_copyOf 9 = .ok (.areturn, 1) := dk_176 (dk_at dksJ23_copyOf_0 9 rfl rfl)
abbrev cJ23_copyOf_2 : ByteArray := prog_38_method_120_code
def yJ23_copyOf_2 : MethodName := ⟨RJ23, "copyOf", "([Ljava/lang/Object;ILjava/lang/Class;)[Ljava/lang/Object;"⟩
def dkwJ23_copyOf_2_1 : List UInt8 := [78, 42, 3, 45, 3, 42, 190, 27, 184, 1, 48, 184, 0, 150, 45, 176]
abbrev dktJ23_copyOf_2_1 : List UInt8 := dkwJ23_copyOf_2_1 ++ []
def dkwJ23_copyOf_2_0 : List UInt8 := [44, 18, 110, 166, 0, 10, 27, 189, 0, 2, 167, 0, 14, 44, 182, 0, 90, 27, 184, 0, 95, 192, 0, 110]
abbrev dktJ23_copyOf_2_0 : List UInt8 := dkwJ23_copyOf_2_0 ++ dktJ23_copyOf_2_1
theorem dksJ23_copyOf_2_0 : cJ23_copyOf_2.data.toList.drop 0 = dktJ23_copyOf_2_0 := by decide +kernel
theorem dksJ23_copyOf_2_1 : cJ23_copyOf_2.data.toList.drop 24 = dktJ23_copyOf_2_1 := dk_seg dksJ23_copyOf_2_0 24 rfl rfl
theorem dJ23_copyOf_2_0 : decode cJ23_copyOf_2 0 = .ok (.aload_n 2, 1) := dk_44 (dk_at dksJ23_copyOf_2_0 0 rfl rfl)
theorem dJ23_copyOf_2_1 : decode cJ23_copyOf_2 1 = .ok (.ldc 110, 2) := dk_18 110 (dk_at dksJ23_copyOf_2_0 1 rfl rfl)
theorem dJ23_copyOf_2_3 : decode cJ23_copyOf_2 3 = .ok (.if_acmp .ne 10, 3) := dk_166 0 10 (dk_at dksJ23_copyOf_2_0 3 rfl rfl)
theorem dJ23_copyOf_2_6 : decode cJ23_copyOf_2 6 = .ok (.iload_n 1, 1) := dk_27 (dk_at dksJ23_copyOf_2_0 6 rfl rfl)
theorem dJ23_copyOf_2_7 : decode cJ23_copyOf_2 7 = .ok (.anewarray 2, 3) := dk_189 0 2 (dk_at dksJ23_copyOf_2_0 7 rfl rfl)
theorem dJ23_copyOf_2_10 : decode cJ23_copyOf_2 10 = .ok (.goto 14, 3) := dk_167 0 14 (dk_at dksJ23_copyOf_2_0 10 rfl rfl)
theorem dJ23_copyOf_2_13 : decode cJ23_copyOf_2 13 = .ok (.aload_n 2, 1) := dk_44 (dk_at dksJ23_copyOf_2_0 13 rfl rfl)
theorem dJ23_copyOf_2_14 : decode cJ23_copyOf_2 14 = .ok (.invokevirtual 90, 3) := dk_182 0 90 (dk_at dksJ23_copyOf_2_0 14 rfl rfl)
theorem dJ23_copyOf_2_17 : decode cJ23_copyOf_2 17 = .ok (.iload_n 1, 1) := dk_27 (dk_at dksJ23_copyOf_2_0 17 rfl rfl)
theorem dJ23_copyOf_2_18 : decode cJ23_copyOf_2 18 = .ok (.invokestatic 95, 3) := dk_184 0 95 (dk_at dksJ23_copyOf_2_0 18 rfl rfl)
theorem dJ23_copyOf_2_21 : decode cJ23_copyOf_2 21 = .ok (.checkcast 110, 3) := dk_192 0 110 (dk_at dksJ23_copyOf_2_0 21 rfl rfl)
theorem dJ23_copyOf_2_24 : decode cJ23_copyOf_2 24 = .ok (.astore_n 3, 1) := dk_78 (dk_at dksJ23_copyOf_2_1 0 rfl rfl)
theorem dJ23_copyOf_2_25 : decode cJ23_copyOf_2 25 = .ok (.aload_n 0, 1) := dk_42 (dk_at dksJ23_copyOf_2_1 1 rfl rfl)
theorem dJ23_copyOf_2_26 : decode cJ23_copyOf_2 26 = .ok (.iconst 0, 1) := dk_3 (dk_at dksJ23_copyOf_2_1 2 rfl rfl)
theorem dJ23_copyOf_2_27 : decode cJ23_copyOf_2 27 = .ok (.aload_n 3, 1) := dk_45 (dk_at dksJ23_copyOf_2_1 3 rfl rfl)
theorem dJ23_copyOf_2_28 : decode cJ23_copyOf_2 28 = .ok (.iconst 0, 1) := dk_3 (dk_at dksJ23_copyOf_2_1 4 rfl rfl)
theorem dJ23_copyOf_2_29 : decode cJ23_copyOf_2 29 = .ok (.aload_n 0, 1) := dk_42 (dk_at dksJ23_copyOf_2_1 5 rfl rfl)
theorem dJ23_copyOf_2_30 : decode cJ23_copyOf_2 30 = .ok (.arraylength, 1) := dk_190 (dk_at dksJ23_copyOf_2_1 6 rfl rfl)
theorem dJ23_copyOf_2_31 : decode cJ23_copyOf_2 31 = .ok (.iload_n 1, 1) := dk_27 (dk_at dksJ23_copyOf_2_1 7 rfl rfl)
theorem dJ23_copyOf_2_32 : decode cJ23_copyOf_2 32 = .ok (.invokestatic 304, 3) := dk_184 1 48 (dk_at dksJ23_copyOf_2_1 8 rfl rfl)
theorem dJ23_copyOf_2_35 : decode cJ23_copyOf_2 35 = .ok (.invokestatic 150, 3) := dk_184 0 150 (dk_at dksJ23_copyOf_2_1 11 rfl rfl)
theorem dJ23_copyOf_2_38 : decode cJ23_copyOf_2 38 = .ok (.aload_n 3, 1) := dk_45 (dk_at dksJ23_copyOf_2_1 14 rfl rfl)
theorem dJ23_copyOf_2_39 : decode cJ23_copyOf_2 39 = .ok (.areturn, 1) := dk_176 (dk_at dksJ23_copyOf_2_1 15 rfl rfl)
theorem q87 : (Jvm.Cond.initialized "java/util/Arrays") ∈ lw_all := lw_g (lw_at lw_m1 30 rfl) rfl
theorem q887 : (Jvm.Cond.static ({ cls := "java/util/Arrays", name := "copyOf", desc := "([Ljava/lang/Object;I)[Ljava/lang/Object;" } : Jvm.MethodName)) ∈ lw_all := lw_g (lw_at lw_m4 110 rfl) rfl
theorem q888 : (Jvm.Cond.code ({ cls := "java/util/Arrays", name := "copyOf", desc := "([Ljava/lang/Object;I)[Ljava/lang/Object;" } : Jvm.MethodName) prog_38_method_119_code (2 : Nat) (Option.some (Jvm.ClassFile.FieldType.array (Jvm.ClassFile.FieldType.object "java/lang/Object")))) ∈ lw_all := lw_g (lw_at lw_m4 111 rfl) rfl
theorem q889 : (Jvm.Cond.methodLink "java/util/Arrays" (86 : Nat) ({ cls := "java/lang/Object", name := "getClass", desc := "()Ljava/lang/Class;" } : Jvm.MethodName)) ∈ lw_all := lw_g (lw_at lw_m4 112 rfl) rfl
theorem q915 : (Jvm.Cond.methodLink "java/util/Arrays" (300 : Nat) ({ cls := "java/util/Arrays", name := "copyOf", desc := "([Ljava/lang/Object;ILjava/lang/Class;)[Ljava/lang/Object;" } : Jvm.MethodName)) ∈ lw_all := lw_g (lw_at lw_m4 138 rfl) rfl
theorem q916 : (Jvm.Cond.static ({ cls := "java/util/Arrays", name := "copyOf", desc := "([Ljava/lang/Object;ILjava/lang/Class;)[Ljava/lang/Object;" } : Jvm.MethodName)) ∈ lw_all := lw_g (lw_at lw_m4 139 rfl) rfl
theorem q917 : (Jvm.Cond.code ({ cls := "java/util/Arrays", name := "copyOf", desc := "([Ljava/lang/Object;ILjava/lang/Class;)[Ljava/lang/Object;" } : Jvm.MethodName) prog_38_method_120_code (4 : Nat) (Option.some (Jvm.ClassFile.FieldType.array (Jvm.ClassFile.FieldType.object "java/lang/Object")))) ∈ lw_all := lw_g (lw_at lw_m4 140 rfl) rfl
theorem q918 : (Jvm.Cond.classLink "java/util/Arrays" (110 : Nat) "[Ljava/lang/Object;") ∈ lw_all := lw_g (lw_at lw_m4 141 rfl) rfl
theorem q919 : (Jvm.Cond.classLink "java/util/Arrays" (2 : Nat) "java/lang/Object") ∈ lw_all := lw_g (lw_at lw_m4 142 rfl) rfl
theorem q920 : (Jvm.Cond.methodLink "java/util/Arrays" (304 : Nat) ({ cls := "java/lang/Math", name := "min", desc := "(II)I" } : Jvm.MethodName)) ∈ lw_all := lw_g (lw_at lw_m4 143 rfl) rfl
theorem q921 : (Jvm.Cond.methodLink "java/util/Arrays" (150 : Nat) ({ cls := "java/lang/System", name := "arraycopy", desc := "(Ljava/lang/Object;ILjava/lang/Object;II)V" } : Jvm.MethodName)) ∈ lw_all := lw_g (lw_at lw_m4 144 rfl) rfl
/-! java/util/TreeMap$Entry -/
set_option maxRecDepth 100000
def RJ24 : String := "java/util/TreeMap$Entry"
def TJ24 : u_T := fun k => match k with
  | 0 => ("java/util/TreeMap$Entry", "key", "Ljava/lang/Object;", false)
  | 1 => ("java/util/TreeMap$Entry", "value", "Ljava/lang/Object;", false)
  | 2 => ("java/util/TreeMap$Entry", "left", "Ljava/util/TreeMap$Entry;", false)
  | 3 => ("java/util/TreeMap$Entry", "right", "Ljava/util/TreeMap$Entry;", false)
  | 4 => ("java/util/TreeMap$Entry", "parent", "Ljava/util/TreeMap$Entry;", false)
  | _ => ("java/util/TreeMap$Entry", "color", "Z", false)
def tyJ24 : Nat → FieldType := fun k => match k with
  | 0 => .object "java/lang/Object"
  | 1 => .object "java/lang/Object"
  | 2 => .object "java/util/TreeMap$Entry"
  | 3 => .object "java/util/TreeMap$Entry"
  | 4 => .object "java/util/TreeMap$Entry"
  | _ => .boolean
abbrev wsJ240 : List Cond := u_ws RJ24 TJ24 6
theorem nmJ24 : ∀ a, a < 6 → ∀ b, b < 6 → a ≠ b → (TJ24 a).2.1 ≠ (TJ24 b).2.1 := by decide +kernel
theorem tyJ24_ok : ∀ k, k < 6 → parseFieldDescriptor (TJ24 k).2.2.1 = some (tyJ24 k) := by decide +kernel
abbrev cJ24_init : ByteArray := prog_56_method_1_code
def yJ24_init : MethodName := ⟨RJ24, "<init>", "(Ljava/lang/Object;Ljava/lang/Object;Ljava/util/TreeMap$Entry;)V"⟩
def dkwJ24_init_1 : List UInt8 := [177]
abbrev dktJ24_init_1 : List UInt8 := dkwJ24_init_1 ++ []
def dkwJ24_init_0 : List UInt8 := [42, 183, 0, 3, 42, 4, 181, 0, 9, 42, 43, 181, 0, 15, 42, 44, 181, 0, 19, 42, 45, 181, 0, 22]
abbrev dktJ24_init_0 : List UInt8 := dkwJ24_init_0 ++ dktJ24_init_1
theorem dksJ24_init_0 : cJ24_init.data.toList.drop 0 = dktJ24_init_0 := by decide +kernel
theorem dksJ24_init_1 : cJ24_init.data.toList.drop 24 = dktJ24_init_1 := dk_seg dksJ24_init_0 24 rfl rfl
theorem dJ24_init_0 : decode cJ24_init 0 = .ok (.aload_n 0, 1) := dk_42 (dk_at dksJ24_init_0 0 rfl rfl)
theorem dJ24_init_1 : decode cJ24_init 1 = .ok (.invokespecial 3, 3) := dk_183 0 3 (dk_at dksJ24_init_0 1 rfl rfl)
theorem dJ24_init_4 : decode cJ24_init 4 = .ok (.aload_n 0, 1) := dk_42 (dk_at dksJ24_init_0 4 rfl rfl)
theorem dJ24_init_5 : decode cJ24_init 5 = .ok (.iconst 1, 1) := dk_4 (dk_at dksJ24_init_0 5 rfl rfl)
theorem dJ24_init_6 : decode cJ24_init 6 = .ok (.putfield 9, 3) := dk_181 0 9 (dk_at dksJ24_init_0 6 rfl rfl)
theorem dJ24_init_9 : decode cJ24_init 9 = .ok (.aload_n 0, 1) := dk_42 (dk_at dksJ24_init_0 9 rfl rfl)
theorem dJ24_init_10 : decode cJ24_init 10 = .ok (.aload_n 1, 1) := dk_43 (dk_at dksJ24_init_0 10 rfl rfl)
theorem dJ24_init_11 : decode cJ24_init 11 = .ok (.putfield 15, 3) := dk_181 0 15 (dk_at dksJ24_init_0 11 rfl rfl)
theorem dJ24_init_14 : decode cJ24_init 14 = .ok (.aload_n 0, 1) := dk_42 (dk_at dksJ24_init_0 14 rfl rfl)
theorem dJ24_init_15 : decode cJ24_init 15 = .ok (.aload_n 2, 1) := dk_44 (dk_at dksJ24_init_0 15 rfl rfl)
theorem dJ24_init_16 : decode cJ24_init 16 = .ok (.putfield 19, 3) := dk_181 0 19 (dk_at dksJ24_init_0 16 rfl rfl)
theorem dJ24_init_19 : decode cJ24_init 19 = .ok (.aload_n 0, 1) := dk_42 (dk_at dksJ24_init_0 19 rfl rfl)
theorem dJ24_init_20 : decode cJ24_init 20 = .ok (.aload_n 3, 1) := dk_45 (dk_at dksJ24_init_0 20 rfl rfl)
theorem dJ24_init_21 : decode cJ24_init 21 = .ok (.putfield 22, 3) := dk_181 0 22 (dk_at dksJ24_init_0 21 rfl rfl)
theorem dJ24_init_24 : decode cJ24_init 24 = .ok (.return_, 1) := dk_177 (dk_at dksJ24_init_1 0 rfl rfl)
abbrev cJ24_getKey : ByteArray := prog_56_method_2_code
def yJ24_getKey : MethodName := ⟨RJ24, "getKey", "()Ljava/lang/Object;"⟩
theorem dJ24_getKey_0 : decode cJ24_getKey 0 = .ok (.aload_n 0, 1) := by decide +kernel
theorem dJ24_getKey_1 : decode cJ24_getKey 1 = .ok (.getfield 15, 3) := by decide +kernel
theorem dJ24_getKey_4 : decode cJ24_getKey 4 = .ok (.areturn, 1) := by decide +kernel
abbrev cJ24_getValue : ByteArray := prog_56_method_3_code
def yJ24_getValue : MethodName := ⟨RJ24, "getValue", "()Ljava/lang/Object;"⟩
theorem dJ24_getValue_0 : decode cJ24_getValue 0 = .ok (.aload_n 0, 1) := by decide +kernel
theorem dJ24_getValue_1 : decode cJ24_getValue 1 = .ok (.getfield 19, 3) := by decide +kernel
theorem dJ24_getValue_4 : decode cJ24_getValue 4 = .ok (.areturn, 1) := by decide +kernel
theorem q90 : (Jvm.Cond.initialized "java/util/TreeMap$Entry") ∈ lw_all := lw_g (lw_at lw_m1 33 rfl) rfl
theorem q912 : (Jvm.Cond.selects "java/util/TreeMap$Entry" ({ cls := "java/lang/Object", name := "getClass", desc := "()Ljava/lang/Class;" } : Jvm.MethodName) ({ cls := "java/lang/Object", name := "getClass", desc := "()Ljava/lang/Class;" } : Jvm.MethodName)) ∈ lw_all := lw_g (lw_at lw_m4 135 rfl) rfl
theorem q1027 : (Jvm.Cond.instantiable "java/util/TreeMap$Entry" (6 : Nat)) ∈ lw_all := lw_g (lw_at lw_m5 10 rfl) rfl
theorem q1029 : (Jvm.Cond.instanceMethod ({ cls := "java/util/TreeMap$Entry", name := "<init>", desc := "(Ljava/lang/Object;Ljava/lang/Object;Ljava/util/TreeMap$Entry;)V" } : Jvm.MethodName)) ∈ lw_all := lw_g (lw_at lw_m5 12 rfl) rfl
theorem q1030 : (Jvm.Cond.code ({ cls := "java/util/TreeMap$Entry", name := "<init>", desc := "(Ljava/lang/Object;Ljava/lang/Object;Ljava/util/TreeMap$Entry;)V" } : Jvm.MethodName) prog_56_method_1_code (4 : Nat) (Option.none : Option Jvm.ClassFile.FieldType)) ∈ lw_all := lw_g (lw_at lw_m5 13 rfl) rfl
theorem q1031 : (Jvm.Cond.methodLink "java/util/TreeMap$Entry" (3 : Nat) ({ cls := "java/lang/Object", name := "<init>", desc := "()V" } : Jvm.MethodName)) ∈ lw_all := lw_g (lw_at lw_m5 14 rfl) rfl
theorem q1032 : (Jvm.Cond.fieldLink "java/util/TreeMap$Entry" (15 : Nat) "java/util/TreeMap$Entry" "key" "Ljava/lang/Object;") ∈ lw_all := lw_g (lw_at lw_m5 15 rfl) rfl
theorem q1034 : (Jvm.Cond.fieldLink "java/util/TreeMap$Entry" (19 : Nat) "java/util/TreeMap$Entry" "value" "Ljava/lang/Object;") ∈ lw_all := lw_g (lw_at lw_m5 17 rfl) rfl
theorem q1038 : (Jvm.Cond.fieldLink "java/util/TreeMap$Entry" (22 : Nat) "java/util/TreeMap$Entry" "parent" "Ljava/util/TreeMap$Entry;") ∈ lw_all := lw_g (lw_at lw_m5 21 rfl) rfl
theorem q1040 : (Jvm.Cond.fieldLink "java/util/TreeMap$Entry" (9 : Nat) "java/util/TreeMap$Entry" "color" "Z") ∈ lw_all := lw_g (lw_at lw_m5 23 rfl) rfl
theorem q1042 : (Jvm.Cond.lays "java/util/TreeMap$Entry" "java/util/TreeMap$Entry" "key" "Ljava/lang/Object;") ∈ lw_all := lw_g (lw_at lw_m5 25 rfl) rfl
theorem q1043 : (Jvm.Cond.soleField "java/util/TreeMap$Entry" "key") ∈ lw_all := lw_g (lw_at lw_m5 26 rfl) rfl
theorem q1044 : (Jvm.Cond.lays "java/util/TreeMap$Entry" "java/util/TreeMap$Entry" "value" "Ljava/lang/Object;") ∈ lw_all := lw_g (lw_at lw_m5 27 rfl) rfl
theorem q1045 : (Jvm.Cond.soleField "java/util/TreeMap$Entry" "value") ∈ lw_all := lw_g (lw_at lw_m5 28 rfl) rfl
theorem q1046 : (Jvm.Cond.lays "java/util/TreeMap$Entry" "java/util/TreeMap$Entry" "left" "Ljava/util/TreeMap$Entry;") ∈ lw_all := lw_g (lw_at lw_m5 29 rfl) rfl
theorem q1047 : (Jvm.Cond.soleField "java/util/TreeMap$Entry" "left") ∈ lw_all := lw_g (lw_at lw_m5 30 rfl) rfl
theorem q1048 : (Jvm.Cond.lays "java/util/TreeMap$Entry" "java/util/TreeMap$Entry" "right" "Ljava/util/TreeMap$Entry;") ∈ lw_all := lw_g (lw_at lw_m5 31 rfl) rfl
theorem q1049 : (Jvm.Cond.soleField "java/util/TreeMap$Entry" "right") ∈ lw_all := lw_g (lw_at lw_m5 32 rfl) rfl
theorem q1050 : (Jvm.Cond.lays "java/util/TreeMap$Entry" "java/util/TreeMap$Entry" "parent" "Ljava/util/TreeMap$Entry;") ∈ lw_all := lw_g (lw_at lw_m5 33 rfl) rfl
theorem q1051 : (Jvm.Cond.soleField "java/util/TreeMap$Entry" "parent") ∈ lw_all := lw_g (lw_at lw_m5 34 rfl) rfl
theorem q1052 : (Jvm.Cond.lays "java/util/TreeMap$Entry" "java/util/TreeMap$Entry" "color" "Z") ∈ lw_all := lw_g (lw_at lw_m5 35 rfl) rfl
theorem q1053 : (Jvm.Cond.soleField "java/util/TreeMap$Entry" "color") ∈ lw_all := lw_g (lw_at lw_m5 36 rfl) rfl
theorem q1054 : (Jvm.Cond.superclass "java/util/TreeMap$Entry" "java/lang/Object") ∈ lw_all := lw_g (lw_at lw_m5 37 rfl) rfl
theorem q1337 : (Jvm.Cond.castable "java/util/TreeMap$Entry" "java/util/Map$Entry") ∈ lw_tbl := lw_at lw_m6 80 rfl
theorem q1338 : (Jvm.Cond.selects "java/util/TreeMap$Entry" ({ cls := "java/util/Map$Entry", name := "getKey", desc := "()Ljava/lang/Object;" } : Jvm.MethodName) ({ cls := "java/util/TreeMap$Entry", name := "getKey", desc := "()Ljava/lang/Object;" } : Jvm.MethodName)) ∈ lw_all := lw_g (lw_at lw_m6 81 rfl) rfl
theorem q1339 : (Jvm.Cond.unhidden "java/util/TreeMap$Entry" "getKey" "()Ljava/lang/Object;") ∈ lw_tbl := lw_at lw_m6 82 rfl
theorem q1340 : (Jvm.Cond.instanceMethod ({ cls := "java/util/TreeMap$Entry", name := "getKey", desc := "()Ljava/lang/Object;" } : Jvm.MethodName)) ∈ lw_all := lw_g (lw_at lw_m6 83 rfl) rfl
theorem q1341 : (Jvm.Cond.publicMethod ({ cls := "java/util/TreeMap$Entry", name := "getKey", desc := "()Ljava/lang/Object;" } : Jvm.MethodName)) ∈ lw_tbl := lw_at lw_m6 84 rfl
theorem q1342 : (Jvm.Cond.code ({ cls := "java/util/TreeMap$Entry", name := "getKey", desc := "()Ljava/lang/Object;" } : Jvm.MethodName) prog_56_method_2_code (1 : Nat) (Option.some (Jvm.ClassFile.FieldType.object "java/lang/Object"))) ∈ lw_all := lw_g (lw_at lw_m6 85 rfl) rfl
theorem q1352 : (Jvm.Cond.selects "java/util/TreeMap$Entry" ({ cls := "java/util/Map$Entry", name := "getValue", desc := "()Ljava/lang/Object;" } : Jvm.MethodName) ({ cls := "java/util/TreeMap$Entry", name := "getValue", desc := "()Ljava/lang/Object;" } : Jvm.MethodName)) ∈ lw_all := lw_g (lw_at lw_m6 95 rfl) rfl
theorem q1353 : (Jvm.Cond.unhidden "java/util/TreeMap$Entry" "getValue" "()Ljava/lang/Object;") ∈ lw_tbl := lw_at lw_m6 96 rfl
theorem q1354 : (Jvm.Cond.instanceMethod ({ cls := "java/util/TreeMap$Entry", name := "getValue", desc := "()Ljava/lang/Object;" } : Jvm.MethodName)) ∈ lw_all := lw_g (lw_at lw_m6 97 rfl) rfl
theorem q1355 : (Jvm.Cond.publicMethod ({ cls := "java/util/TreeMap$Entry", name := "getValue", desc := "()Ljava/lang/Object;" } : Jvm.MethodName)) ∈ lw_tbl := lw_at lw_m6 98 rfl
theorem q1356 : (Jvm.Cond.code ({ cls := "java/util/TreeMap$Entry", name := "getValue", desc := "()Ljava/lang/Object;" } : Jvm.MethodName) prog_56_method_3_code (1 : Nat) (Option.some (Jvm.ClassFile.FieldType.object "java/lang/Object"))) ∈ lw_all := lw_g (lw_at lw_m6 99 rfl) rfl
theorem q1715 : (Jvm.Cond.castable "java/util/TreeMap$Entry" "java/lang/Object") ∈ lw_tbl := lw_at lw_m7 218 rfl
theorem in_J24 : ∀ w ∈ wsJ240, w ∈ lw_all := lw_in wsJ240 [1042, 1044, 1046, 1048, 1050, 1052] (by decide +kernel) (by decide +kernel)
/-! jdk/internal/util/Preconditions -/
set_option maxRecDepth 100000
def RJ25 : String := "jdk/internal/util/Preconditions"
abbrev cJ25_checkIndex : ByteArray := prog_59_method_11_code
def yJ25_checkIndex : MethodName := ⟨RJ25, "checkIndex", "(IILjava/util/function/BiFunction;)I"⟩
def dkwJ25_checkIndex_0 : List UInt8 := [26, 155, 0, 8, 26, 27, 161, 0, 10, 44, 26, 27, 184, 0, 95, 191, 26, 172]
abbrev dktJ25_checkIndex_0 : List UInt8 := dkwJ25_checkIndex_0 ++ []
theorem dksJ25_checkIndex_0 : cJ25_checkIndex.data.toList.drop 0 = dktJ25_checkIndex_0 := by decide +kernel
theorem dJ25_checkIndex_0 : decode cJ25_checkIndex 0 = .ok (.iload_n 0, 1) := dk_26 (dk_at dksJ25_checkIndex_0 0 rfl rfl)
theorem dJ25_checkIndex_1 : decode cJ25_checkIndex 1 = .ok (.ifCond .lt 8, 3) := dk_155 0 8 (dk_at dksJ25_checkIndex_0 1 rfl rfl)
theorem dJ25_checkIndex_4 : decode cJ25_checkIndex 4 = .ok (.iload_n 0, 1) := dk_26 (dk_at dksJ25_checkIndex_0 4 rfl rfl)
theorem dJ25_checkIndex_5 : decode cJ25_checkIndex 5 = .ok (.iload_n 1, 1) := dk_27 (dk_at dksJ25_checkIndex_0 5 rfl rfl)
theorem dJ25_checkIndex_6 : decode cJ25_checkIndex 6 = .ok (.if_icmp .lt 10, 3) := dk_161 0 10 (dk_at dksJ25_checkIndex_0 6 rfl rfl)
theorem dJ25_checkIndex_9 : decode cJ25_checkIndex 9 = .ok (.aload_n 2, 1) := dk_44 (dk_at dksJ25_checkIndex_0 9 rfl rfl)
theorem dJ25_checkIndex_10 : decode cJ25_checkIndex 10 = .ok (.iload_n 0, 1) := dk_26 (dk_at dksJ25_checkIndex_0 10 rfl rfl)
theorem dJ25_checkIndex_11 : decode cJ25_checkIndex 11 = .ok (.iload_n 1, 1) := dk_27 (dk_at dksJ25_checkIndex_0 11 rfl rfl)
theorem dJ25_checkIndex_12 : decode cJ25_checkIndex 12 = .ok (.invokestatic 95, 3) := dk_184 0 95 (dk_at dksJ25_checkIndex_0 12 rfl rfl)
theorem dJ25_checkIndex_15 : decode cJ25_checkIndex 15 = .ok (.athrow, 1) := dk_191 (dk_at dksJ25_checkIndex_0 15 rfl rfl)
theorem dJ25_checkIndex_16 : decode cJ25_checkIndex 16 = .ok (.iload_n 0, 1) := dk_26 (dk_at dksJ25_checkIndex_0 16 rfl rfl)
theorem dJ25_checkIndex_17 : decode cJ25_checkIndex 17 = .ok (.ireturn, 1) := dk_172 (dk_at dksJ25_checkIndex_0 17 rfl rfl)
theorem q93 : (Jvm.Cond.initialized "jdk/internal/util/Preconditions") ∈ lw_all := lw_g (lw_at lw_m1 36 rfl) rfl
theorem q1238 : (Jvm.Cond.static ({ cls := "jdk/internal/util/Preconditions", name := "checkIndex", desc := "(IILjava/util/function/BiFunction;)I" } : Jvm.MethodName)) ∈ lw_all := lw_g (lw_at lw_m5 221 rfl) rfl
theorem q1239 : (Jvm.Cond.code ({ cls := "jdk/internal/util/Preconditions", name := "checkIndex", desc := "(IILjava/util/function/BiFunction;)I" } : Jvm.MethodName) prog_59_method_11_code (3 : Nat) (Option.some Jvm.ClassFile.FieldType.int)) ∈ lw_all := lw_g (lw_at lw_m5 222 rfl) rfl
/-! java/util/TreeMap$EntrySet -/
set_option maxRecDepth 100000
def RJ26 : String := "java/util/TreeMap$EntrySet"
abbrev cJ26_size : ByteArray := prog_57_method_5_code
def yJ26_size : MethodName := ⟨RJ26, "size", "()I"⟩
def dkwJ26_size_0 : List UInt8 := [42, 180, 0, 1, 182, 0, 48, 172]
abbrev dktJ26_size_0 : List UInt8 := dkwJ26_size_0 ++ []
theorem dksJ26_size_0 : cJ26_size.data.toList.drop 0 = dktJ26_size_0 := by decide +kernel
theorem dJ26_size_0 : decode cJ26_size 0 = .ok (.aload_n 0, 1) := dk_42 (dk_at dksJ26_size_0 0 rfl rfl)
theorem dJ26_size_1 : decode cJ26_size 1 = .ok (.getfield 1, 3) := dk_180 0 1 (dk_at dksJ26_size_0 1 rfl rfl)
theorem dJ26_size_4 : decode cJ26_size 4 = .ok (.invokevirtual 48, 3) := dk_182 0 48 (dk_at dksJ26_size_0 4 rfl rfl)
theorem dJ26_size_7 : decode cJ26_size 7 = .ok (.ireturn, 1) := dk_172 (dk_at dksJ26_size_0 7 rfl rfl)
theorem q95 : (Jvm.Cond.initialized "java/util/TreeMap$EntrySet") ∈ lw_all := lw_g (lw_at lw_m1 38 rfl) rfl
theorem q913 : (Jvm.Cond.selects "java/util/TreeMap$EntrySet" ({ cls := "java/lang/Object", name := "getClass", desc := "()Ljava/lang/Class;" } : Jvm.MethodName) ({ cls := "java/lang/Object", name := "getClass", desc := "()Ljava/lang/Class;" } : Jvm.MethodName)) ∈ lw_all := lw_g (lw_at lw_m4 136 rfl) rfl
theorem q954 : (Jvm.Cond.selects "java/util/TreeMap$EntrySet" ({ cls := "java/util/AbstractCollection", name := "size", desc := "()I" } : Jvm.MethodName) ({ cls := "java/util/TreeMap$EntrySet", name := "size", desc := "()I" } : Jvm.MethodName)) ∈ lw_all := lw_g (lw_at lw_m4 177 rfl) rfl
theorem q955 : (Jvm.Cond.instanceMethod ({ cls := "java/util/TreeMap$EntrySet", name := "size", desc := "()I" } : Jvm.MethodName)) ∈ lw_all := lw_g (lw_at lw_m4 178 rfl) rfl
theorem q956 : (Jvm.Cond.code ({ cls := "java/util/TreeMap$EntrySet", name := "size", desc := "()I" } : Jvm.MethodName) prog_57_method_5_code (1 : Nat) (Option.some Jvm.ClassFile.FieldType.int)) ∈ lw_all := lw_g (lw_at lw_m4 179 rfl) rfl
theorem q957 : (Jvm.Cond.methodLink "java/util/TreeMap$EntrySet" (48 : Nat) ({ cls := "java/util/TreeMap", name := "size", desc := "()I" } : Jvm.MethodName)) ∈ lw_all := lw_g (lw_at lw_m4 180 rfl) rfl
theorem q1718 : (Jvm.Cond.castable "java/util/TreeMap$EntrySet" "java/lang/Object") ∈ lw_tbl := lw_at lw_m7 221 rfl
theorem q1733 : (Jvm.Cond.fieldLink "java/util/TreeMap$EntrySet" (1 : Nat) "java/util/TreeMap$EntrySet" "this$0" "Ljava/util/TreeMap;") ∈ lw_all := lw_g (lw_at lw_m7 236 rfl) rfl
/-! java/util/AbstractMap$SimpleImmutableEntry -/
set_option maxRecDepth 100000
def RJ27 : String := "java/util/AbstractMap$SimpleImmutableEntry"
def TJ27 : u_T := fun k => match k with
  | 0 => ("java/util/AbstractMap$SimpleImmutableEntry", "key", "Ljava/lang/Object;", true)
  | _ => ("java/util/AbstractMap$SimpleImmutableEntry", "value", "Ljava/lang/Object;", true)
def tyJ27 : Nat → FieldType := fun k => match k with
  | 0 => .object "java/lang/Object"
  | _ => .object "java/lang/Object"
abbrev wsJ270 : List Cond := u_ws RJ27 TJ27 2
theorem nmJ27 : ∀ a, a < 2 → ∀ b, b < 2 → a ≠ b → (TJ27 a).2.1 ≠ (TJ27 b).2.1 := by decide +kernel
theorem tyJ27_ok : ∀ k, k < 2 → parseFieldDescriptor (TJ27 k).2.2.1 = some (tyJ27 k) := by decide +kernel
abbrev cJ27_init : ByteArray := prog_33_method_2_code
def yJ27_init : MethodName := ⟨RJ27, "<init>", "(Ljava/util/Map$Entry;)V"⟩
def dkwJ27_init_1 : List UInt8 := [177]
abbrev dktJ27_init_1 : List UInt8 := dkwJ27_init_1 ++ []
def dkwJ27_init_0 : List UInt8 := [42, 183, 0, 1, 42, 43, 185, 0, 16, 1, 0, 181, 0, 7, 42, 43, 185, 0, 22, 1, 0, 181, 0, 13]
abbrev dktJ27_init_0 : List UInt8 := dkwJ27_init_0 ++ dktJ27_init_1
theorem dksJ27_init_0 : cJ27_init.data.toList.drop 0 = dktJ27_init_0 := by decide +kernel
theorem dksJ27_init_1 : cJ27_init.data.toList.drop 24 = dktJ27_init_1 := dk_seg dksJ27_init_0 24 rfl rfl
theorem dJ27_init_0 : decode cJ27_init 0 = .ok (.aload_n 0, 1) := dk_42 (dk_at dksJ27_init_0 0 rfl rfl)
theorem dJ27_init_1 : decode cJ27_init 1 = .ok (.invokespecial 1, 3) := dk_183 0 1 (dk_at dksJ27_init_0 1 rfl rfl)
theorem dJ27_init_4 : decode cJ27_init 4 = .ok (.aload_n 0, 1) := dk_42 (dk_at dksJ27_init_0 4 rfl rfl)
theorem dJ27_init_5 : decode cJ27_init 5 = .ok (.aload_n 1, 1) := dk_43 (dk_at dksJ27_init_0 5 rfl rfl)
theorem dJ27_init_6 : decode cJ27_init 6 = .ok (.invokeinterface 16 1, 5) := by decide +kernel
theorem dJ27_init_11 : decode cJ27_init 11 = .ok (.putfield 7, 3) := dk_181 0 7 (dk_at dksJ27_init_0 11 rfl rfl)
theorem dJ27_init_14 : decode cJ27_init 14 = .ok (.aload_n 0, 1) := dk_42 (dk_at dksJ27_init_0 14 rfl rfl)
theorem dJ27_init_15 : decode cJ27_init 15 = .ok (.aload_n 1, 1) := dk_43 (dk_at dksJ27_init_0 15 rfl rfl)
theorem dJ27_init_16 : decode cJ27_init 16 = .ok (.invokeinterface 22 1, 5) := by decide +kernel
theorem dJ27_init_21 : decode cJ27_init 21 = .ok (.putfield 13, 3) := dk_181 0 13 (dk_at dksJ27_init_0 21 rfl rfl)
theorem dJ27_init_24 : decode cJ27_init 24 = .ok (.return_, 1) := dk_177 (dk_at dksJ27_init_1 0 rfl rfl)
abbrev cJ27_getKey : ByteArray := prog_33_method_3_code
def yJ27_getKey : MethodName := ⟨RJ27, "getKey", "()Ljava/lang/Object;"⟩
theorem dJ27_getKey_0 : decode cJ27_getKey 0 = .ok (.aload_n 0, 1) := by decide +kernel
theorem dJ27_getKey_1 : decode cJ27_getKey 1 = .ok (.getfield 7, 3) := by decide +kernel
theorem dJ27_getKey_4 : decode cJ27_getKey 4 = .ok (.areturn, 1) := by decide +kernel
abbrev cJ27_getValue : ByteArray := prog_33_method_4_code
def yJ27_getValue : MethodName := ⟨RJ27, "getValue", "()Ljava/lang/Object;"⟩
theorem dJ27_getValue_0 : decode cJ27_getValue 0 = .ok (.aload_n 0, 1) := by decide +kernel
theorem dJ27_getValue_1 : decode cJ27_getValue 1 = .ok (.getfield 13, 3) := by decide +kernel
theorem dJ27_getValue_4 : decode cJ27_getValue 4 = .ok (.areturn, 1) := by decide +kernel
theorem q96 : (Jvm.Cond.initialized "java/util/AbstractMap$SimpleImmutableEntry") ∈ lw_all := lw_g (lw_at lw_m1 39 rfl) rfl
theorem q906 : (Jvm.Cond.selects "java/util/AbstractMap$SimpleImmutableEntry" ({ cls := "java/lang/Object", name := "getClass", desc := "()Ljava/lang/Class;" } : Jvm.MethodName) ({ cls := "java/lang/Object", name := "getClass", desc := "()Ljava/lang/Class;" } : Jvm.MethodName)) ∈ lw_all := lw_g (lw_at lw_m4 129 rfl) rfl
theorem q1322 : (Jvm.Cond.instantiable "java/util/AbstractMap$SimpleImmutableEntry" (2 : Nat)) ∈ lw_all := lw_g (lw_at lw_m6 65 rfl) rfl
theorem q1324 : (Jvm.Cond.instanceMethod ({ cls := "java/util/AbstractMap$SimpleImmutableEntry", name := "<init>", desc := "(Ljava/util/Map$Entry;)V" } : Jvm.MethodName)) ∈ lw_all := lw_g (lw_at lw_m6 67 rfl) rfl
theorem q1325 : (Jvm.Cond.code ({ cls := "java/util/AbstractMap$SimpleImmutableEntry", name := "<init>", desc := "(Ljava/util/Map$Entry;)V" } : Jvm.MethodName) prog_33_method_2_code (2 : Nat) (Option.none : Option Jvm.ClassFile.FieldType)) ∈ lw_all := lw_g (lw_at lw_m6 68 rfl) rfl
theorem q1326 : (Jvm.Cond.methodLink "java/util/AbstractMap$SimpleImmutableEntry" (1 : Nat) ({ cls := "java/lang/Object", name := "<init>", desc := "()V" } : Jvm.MethodName)) ∈ lw_all := lw_g (lw_at lw_m6 69 rfl) rfl
theorem q1327 : (Jvm.Cond.interfaceEntry "java/util/AbstractMap$SimpleImmutableEntry" (16 : Nat)) ∈ lw_tbl := lw_at lw_m6 70 rfl
theorem q1328 : (Jvm.Cond.methodLink "java/util/AbstractMap$SimpleImmutableEntry" (16 : Nat) ({ cls := "java/util/Map$Entry", name := "getKey", desc := "()Ljava/lang/Object;" } : Jvm.MethodName)) ∈ lw_all := lw_g (lw_at lw_m6 71 rfl) rfl
theorem q1331 : (Jvm.Cond.castable "java/util/AbstractMap$SimpleImmutableEntry" "java/util/Map$Entry") ∈ lw_tbl := lw_at lw_m6 74 rfl
theorem q1332 : (Jvm.Cond.selects "java/util/AbstractMap$SimpleImmutableEntry" ({ cls := "java/util/Map$Entry", name := "getKey", desc := "()Ljava/lang/Object;" } : Jvm.MethodName) ({ cls := "java/util/AbstractMap$SimpleImmutableEntry", name := "getKey", desc := "()Ljava/lang/Object;" } : Jvm.MethodName)) ∈ lw_all := lw_g (lw_at lw_m6 75 rfl) rfl
theorem q1333 : (Jvm.Cond.unhidden "java/util/AbstractMap$SimpleImmutableEntry" "getKey" "()Ljava/lang/Object;") ∈ lw_tbl := lw_at lw_m6 76 rfl
theorem q1334 : (Jvm.Cond.instanceMethod ({ cls := "java/util/AbstractMap$SimpleImmutableEntry", name := "getKey", desc := "()Ljava/lang/Object;" } : Jvm.MethodName)) ∈ lw_all := lw_g (lw_at lw_m6 77 rfl) rfl
theorem q1335 : (Jvm.Cond.publicMethod ({ cls := "java/util/AbstractMap$SimpleImmutableEntry", name := "getKey", desc := "()Ljava/lang/Object;" } : Jvm.MethodName)) ∈ lw_tbl := lw_at lw_m6 78 rfl
theorem q1336 : (Jvm.Cond.code ({ cls := "java/util/AbstractMap$SimpleImmutableEntry", name := "getKey", desc := "()Ljava/lang/Object;" } : Jvm.MethodName) prog_33_method_3_code (1 : Nat) (Option.some (Jvm.ClassFile.FieldType.object "java/lang/Object"))) ∈ lw_all := lw_g (lw_at lw_m6 79 rfl) rfl
theorem q1343 : (Jvm.Cond.interfaceEntry "java/util/AbstractMap$SimpleImmutableEntry" (22 : Nat)) ∈ lw_tbl := lw_at lw_m6 86 rfl
theorem q1344 : (Jvm.Cond.methodLink "java/util/AbstractMap$SimpleImmutableEntry" (22 : Nat) ({ cls := "java/util/Map$Entry", name := "getValue", desc := "()Ljava/lang/Object;" } : Jvm.MethodName)) ∈ lw_all := lw_g (lw_at lw_m6 87 rfl) rfl
theorem q1347 : (Jvm.Cond.selects "java/util/AbstractMap$SimpleImmutableEntry" ({ cls := "java/util/Map$Entry", name := "getValue", desc := "()Ljava/lang/Object;" } : Jvm.MethodName) ({ cls := "java/util/AbstractMap$SimpleImmutableEntry", name := "getValue", desc := "()Ljava/lang/Object;" } : Jvm.MethodName)) ∈ lw_all := lw_g (lw_at lw_m6 90 rfl) rfl
theorem q1348 : (Jvm.Cond.unhidden "java/util/AbstractMap$SimpleImmutableEntry" "getValue" "()Ljava/lang/Object;") ∈ lw_tbl := lw_at lw_m6 91 rfl
theorem q1349 : (Jvm.Cond.instanceMethod ({ cls := "java/util/AbstractMap$SimpleImmutableEntry", name := "getValue", desc := "()Ljava/lang/Object;" } : Jvm.MethodName)) ∈ lw_all := lw_g (lw_at lw_m6 92 rfl) rfl
theorem q1350 : (Jvm.Cond.publicMethod ({ cls := "java/util/AbstractMap$SimpleImmutableEntry", name := "getValue", desc := "()Ljava/lang/Object;" } : Jvm.MethodName)) ∈ lw_tbl := lw_at lw_m6 93 rfl
theorem q1351 : (Jvm.Cond.code ({ cls := "java/util/AbstractMap$SimpleImmutableEntry", name := "getValue", desc := "()Ljava/lang/Object;" } : Jvm.MethodName) prog_33_method_4_code (1 : Nat) (Option.some (Jvm.ClassFile.FieldType.object "java/lang/Object"))) ∈ lw_all := lw_g (lw_at lw_m6 94 rfl) rfl
theorem q1357 : (Jvm.Cond.fieldLink "java/util/AbstractMap$SimpleImmutableEntry" (7 : Nat) "java/util/AbstractMap$SimpleImmutableEntry" "key" "Ljava/lang/Object;") ∈ lw_all := lw_g (lw_at lw_m6 100 rfl) rfl
theorem q1358 : (Jvm.Cond.fieldLink "java/util/AbstractMap$SimpleImmutableEntry" (13 : Nat) "java/util/AbstractMap$SimpleImmutableEntry" "value" "Ljava/lang/Object;") ∈ lw_all := lw_g (lw_at lw_m6 101 rfl) rfl
theorem q1359 : (Jvm.Cond.laysFinal "java/util/AbstractMap$SimpleImmutableEntry" "java/util/AbstractMap$SimpleImmutableEntry" "key" "Ljava/lang/Object;") ∈ lw_all := lw_g (lw_at lw_m6 102 rfl) rfl
theorem q1360 : (Jvm.Cond.soleField "java/util/AbstractMap$SimpleImmutableEntry" "key") ∈ lw_all := lw_g (lw_at lw_m6 103 rfl) rfl
theorem q1361 : (Jvm.Cond.laysFinal "java/util/AbstractMap$SimpleImmutableEntry" "java/util/AbstractMap$SimpleImmutableEntry" "value" "Ljava/lang/Object;") ∈ lw_all := lw_g (lw_at lw_m6 104 rfl) rfl
theorem q1362 : (Jvm.Cond.soleField "java/util/AbstractMap$SimpleImmutableEntry" "value") ∈ lw_all := lw_g (lw_at lw_m6 105 rfl) rfl
theorem q1363 : (Jvm.Cond.superclass "java/util/AbstractMap$SimpleImmutableEntry" "java/lang/Object") ∈ lw_all := lw_g (lw_at lw_m6 106 rfl) rfl
theorem q1719 : (Jvm.Cond.castable "java/util/AbstractMap$SimpleImmutableEntry" "java/lang/Object") ∈ lw_tbl := lw_at lw_m7 222 rfl
theorem in_J27 : ∀ w ∈ wsJ270, w ∈ lw_all := lw_in wsJ270 [1359, 1361] (by decide +kernel) (by decide +kernel)
/-! java/lang/Object -/
set_option maxRecDepth 100000
def RJ28 : String := "java/lang/Object"
abbrev cJ28_init : ByteArray := object_method_1_code
def yJ28_init : MethodName := ⟨RJ28, "<init>", "()V"⟩
theorem dJ28_init_0 : decode cJ28_init 0 = .ok (.return_, 1) := by decide +kernel
theorem q103 : (Jvm.Cond.instanceMethod ({ cls := "java/lang/Object", name := "<init>", desc := "()V" } : Jvm.MethodName)) ∈ lw_all := lw_g (lw_at lw_m1 46 rfl) rfl
theorem q104 : (Jvm.Cond.code ({ cls := "java/lang/Object", name := "<init>", desc := "()V" } : Jvm.MethodName) object_method_1_code (1 : Nat) (Option.none : Option Jvm.ClassFile.FieldType)) ∈ lw_all := lw_g (lw_at lw_m1 47 rfl) rfl
theorem q890 : (Jvm.Cond.instanceMethod ({ cls := "java/lang/Object", name := "getClass", desc := "()Ljava/lang/Class;" } : Jvm.MethodName)) ∈ lw_all := lw_g (lw_at lw_m4 113 rfl) rfl
theorem q891 : (Jvm.Cond.sameMethod "java/lang/Object" "java/lang/Object" "getClass" "()Ljava/lang/Class;") ∈ lw_all := lw_g (lw_at lw_m4 114 rfl) rfl
theorem q914 : (Jvm.Cond.native ({ cls := "java/lang/Object", name := "getClass", desc := "()Ljava/lang/Class;" } : Jvm.MethodName)) ∈ lw_all := lw_g (lw_at lw_m4 137 rfl) rfl
theorem q1077 : (Jvm.Cond.native ({ cls := "java/lang/Object", name := "clone", desc := "()Ljava/lang/Object;" } : Jvm.MethodName)) ∈ lw_all := lw_g (lw_at lw_m5 60 rfl) rfl
theorem q1078 : (Jvm.Cond.instanceMethod ({ cls := "java/lang/Object", name := "clone", desc := "()Ljava/lang/Object;" } : Jvm.MethodName)) ∈ lw_all := lw_g (lw_at lw_m5 61 rfl) rfl
theorem q1695 : (Jvm.Cond.initialized "java/lang/Object") ∈ lw_all := lw_g (lw_at lw_m7 198 rfl) rfl
theorem q1724 : (Jvm.Cond.declares ({ cls := "java/lang/Object", name := "getClass", desc := "()Ljava/lang/Class;" } : Jvm.MethodName)) ∈ lw_tbl := lw_at lw_m7 227 rfl
